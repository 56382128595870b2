set_option maxRecDepth 100000
theorem pdX7_copies : yX7_copies.cls = "LoseLeagueModel" ∧ yX7_copies.cls ≠ "java/lang/invoke/MethodHandle" ∧ yX7_copies.cls ≠ "java/lang/invoke/VarHandle" ∧ (parseMethodDescriptor yX7_copies.desc).map (fun d => d.parameters.length) = some 2 := by decide +kernel
theorem peX7_copies : yX7_copies.name ≠ "<init>" ∧ (parseMethodDescriptor yX7_copies.desc).map (fun d => d.parameters.length) = some 2 := by decide +kernel
theorem pdX7_weeksGo : yX7_weeksGo.cls = "LoseLeagueModel" ∧ yX7_weeksGo.cls ≠ "java/lang/invoke/MethodHandle" ∧ yX7_weeksGo.cls ≠ "java/lang/invoke/VarHandle" ∧ (parseMethodDescriptor yX7_weeksGo.desc).map (fun d => d.parameters.length) = some 2 := by decide +kernel
theorem peX7_weeksGo : yX7_weeksGo.name ≠ "<init>" ∧ (parseMethodDescriptor yX7_weeksGo.desc).map (fun d => d.parameters.length) = some 2 := by decide +kernel
theorem pdX7_runs : yX7_runs.cls = "LoseLeagueModel" ∧ yX7_runs.cls ≠ "java/lang/invoke/MethodHandle" ∧ yX7_runs.cls ≠ "java/lang/invoke/VarHandle" ∧ (parseMethodDescriptor yX7_runs.desc).map (fun d => d.parameters.length) = some 2 := by decide +kernel
theorem peX7_runs : yX7_runs.name ≠ "<init>" ∧ (parseMethodDescriptor yX7_runs.desc).map (fun d => d.parameters.length) = some 2 := by decide +kernel
theorem pdX7_ahead : yX7_ahead.cls = "LoseLeagueModel" ∧ yX7_ahead.cls ≠ "java/lang/invoke/MethodHandle" ∧ yX7_ahead.cls ≠ "java/lang/invoke/VarHandle" ∧ (parseMethodDescriptor yX7_ahead.desc).map (fun d => d.parameters.length) = some 3 := by decide +kernel
theorem peX7_ahead : yX7_ahead.name ≠ "<init>" ∧ (parseMethodDescriptor yX7_ahead.desc).map (fun d => d.parameters.length) = some 3 := by decide +kernel
theorem pdX7_loser : yX7_loser.cls = "LoseLeagueModel" ∧ yX7_loser.cls ≠ "java/lang/invoke/MethodHandle" ∧ yX7_loser.cls ≠ "java/lang/invoke/VarHandle" ∧ (parseMethodDescriptor yX7_loser.desc).map (fun d => d.parameters.length) = some 1 := by decide +kernel
theorem peX7_loser : yX7_loser.name ≠ "<init>" ∧ (parseMethodDescriptor yX7_loser.desc).map (fun d => d.parameters.length) = some 1 := by decide +kernel
theorem pdX7_firstLoss : yX7_firstLoss.cls = "LoseLeagueModel" ∧ yX7_firstLoss.cls ≠ "java/lang/invoke/MethodHandle" ∧ yX7_firstLoss.cls ≠ "java/lang/invoke/VarHandle" ∧ (parseMethodDescriptor yX7_firstLoss.desc).map (fun d => d.parameters.length) = some 3 := by decide +kernel
theorem peX7_firstLoss : yX7_firstLoss.name ≠ "<init>" ∧ (parseMethodDescriptor yX7_firstLoss.desc).map (fun d => d.parameters.length) = some 3 := by decide +kernel
theorem pdX7_loses : yX7_loses.cls = "LoseLeagueModel" ∧ yX7_loses.cls ≠ "java/lang/invoke/MethodHandle" ∧ yX7_loses.cls ≠ "java/lang/invoke/VarHandle" ∧ (parseMethodDescriptor yX7_loses.desc).map (fun d => d.parameters.length) = some 1 := by decide +kernel
theorem peX7_loses : yX7_loses.name ≠ "<init>" ∧ (parseMethodDescriptor yX7_loses.desc).map (fun d => d.parameters.length) = some 1 := by decide +kernel
theorem pdX7_ordered : yX7_ordered.cls = "LoseLeagueModel" ∧ yX7_ordered.cls ≠ "java/lang/invoke/MethodHandle" ∧ yX7_ordered.cls ≠ "java/lang/invoke/VarHandle" ∧ (parseMethodDescriptor yX7_ordered.desc).map (fun d => d.parameters.length) = some 1 := by decide +kernel
theorem peX7_ordered : yX7_ordered.name ≠ "<init>" ∧ (parseMethodDescriptor yX7_ordered.desc).map (fun d => d.parameters.length) = some 1 := by decide +kernel
theorem pdX7_order : yX7_order.cls = "LoseLeagueModel" ∧ yX7_order.cls ≠ "java/lang/invoke/MethodHandle" ∧ yX7_order.cls ≠ "java/lang/invoke/VarHandle" ∧ (parseMethodDescriptor yX7_order.desc).map (fun d => d.parameters.length) = some 1 := by decide +kernel
theorem peX7_order : yX7_order.name ≠ "<init>" ∧ (parseMethodDescriptor yX7_order.desc).map (fun d => d.parameters.length) = some 1 := by decide +kernel
theorem pdX7_loan : yX7_loan.cls = "LoseLeagueModel" ∧ yX7_loan.cls ≠ "java/lang/invoke/MethodHandle" ∧ yX7_loan.cls ≠ "java/lang/invoke/VarHandle" ∧ (parseMethodDescriptor yX7_loan.desc).map (fun d => d.parameters.length) = some 2 := by decide +kernel
theorem peX7_loan : yX7_loan.name ≠ "<init>" ∧ (parseMethodDescriptor yX7_loan.desc).map (fun d => d.parameters.length) = some 2 := by decide +kernel
theorem pdX7_swap : yX7_swap.cls = "LoseLeagueModel" ∧ yX7_swap.cls ≠ "java/lang/invoke/MethodHandle" ∧ yX7_swap.cls ≠ "java/lang/invoke/VarHandle" ∧ (parseMethodDescriptor yX7_swap.desc).map (fun d => d.parameters.length) = some 2 := by decide +kernel
theorem peX7_swap : yX7_swap.name ≠ "<init>" ∧ (parseMethodDescriptor yX7_swap.desc).map (fun d => d.parameters.length) = some 2 := by decide +kernel
theorem pdX7_skip : yX7_skip.cls = "LoseLeagueModel" ∧ yX7_skip.cls ≠ "java/lang/invoke/MethodHandle" ∧ yX7_skip.cls ≠ "java/lang/invoke/VarHandle" ∧ (parseMethodDescriptor yX7_skip.desc).map (fun d => d.parameters.length) = some 2 := by decide +kernel
theorem peX7_skip : yX7_skip.name ≠ "<init>" ∧ (parseMethodDescriptor yX7_skip.desc).map (fun d => d.parameters.length) = some 2 := by decide +kernel
theorem pdX7_most : yX7_most.cls = "LoseLeagueModel" ∧ yX7_most.cls ≠ "java/lang/invoke/MethodHandle" ∧ yX7_most.cls ≠ "java/lang/invoke/VarHandle" ∧ (parseMethodDescriptor yX7_most.desc).map (fun d => d.parameters.length) = some 2 := by decide +kernel
theorem peX7_most : yX7_most.name ≠ "<init>" ∧ (parseMethodDescriptor yX7_most.desc).map (fun d => d.parameters.length) = some 2 := by decide +kernel
theorem pdX7_kind : yX7_kind.cls = "LoseLeagueModel" ∧ yX7_kind.cls ≠ "java/lang/invoke/MethodHandle" ∧ yX7_kind.cls ≠ "java/lang/invoke/VarHandle" ∧ (parseMethodDescriptor yX7_kind.desc).map (fun d => d.parameters.length) = some 3 := by decide +kernel
theorem peX7_kind : yX7_kind.name ≠ "<init>" ∧ (parseMethodDescriptor yX7_kind.desc).map (fun d => d.parameters.length) = some 3 := by decide +kernel
theorem pdX7_byRain : yX7_byRain.cls = "LoseLeagueModel" ∧ yX7_byRain.cls ≠ "java/lang/invoke/MethodHandle" ∧ yX7_byRain.cls ≠ "java/lang/invoke/VarHandle" ∧ (parseMethodDescriptor yX7_byRain.desc).map (fun d => d.parameters.length) = some 4 := by decide +kernel
theorem peX7_byRain : yX7_byRain.name ≠ "<init>" ∧ (parseMethodDescriptor yX7_byRain.desc).map (fun d => d.parameters.length) = some 4 := by decide +kernel
theorem pdX7_luck : yX7_luck.cls = "LoseLeagueModel" ∧ yX7_luck.cls ≠ "java/lang/invoke/MethodHandle" ∧ yX7_luck.cls ≠ "java/lang/invoke/VarHandle" ∧ (parseMethodDescriptor yX7_luck.desc).map (fun d => d.parameters.length) = some 4 := by decide +kernel
theorem peX7_luck : yX7_luck.name ≠ "<init>" ∧ (parseMethodDescriptor yX7_luck.desc).map (fun d => d.parameters.length) = some 4 := by decide +kernel
theorem pdX7_mean : yX7_mean.cls = "LoseLeagueModel" ∧ yX7_mean.cls ≠ "java/lang/invoke/MethodHandle" ∧ yX7_mean.cls ≠ "java/lang/invoke/VarHandle" ∧ (parseMethodDescriptor yX7_mean.desc).map (fun d => d.parameters.length) = some 3 := by decide +kernel
theorem peX7_mean : yX7_mean.name ≠ "<init>" ∧ (parseMethodDescriptor yX7_mean.desc).map (fun d => d.parameters.length) = some 3 := by decide +kernel
def wbX7_copies_2 (p1 : Int32) (p2 : Int32) (Q : (Nat → Int32) → Prop) (k2 : (Nat → Int32) → Int32 → Prop) (st : Nat → Int32) (x3 : Int32) : Prop :=
  (((42 : Int32) ≤ x3 → Q st) ∧ (¬ (42 : Int32) ≤ x3 → (vp_in (p1 + x3) 252 ∧ (vp_in (p2 + x3) 252 ∧ k2 (upd st (p2 + x3).toNatClampNeg (st (p1 + x3).toNatClampNeg)) (x3 + 1)))))
def wpX7_copies_2 (p1 : Int32) (p2 : Int32) (Q : (Nat → Int32) → Prop) (n : Nat) : (Nat → Int32) → Int32 → Prop :=
  Nat.rec (motive := fun _ => (Nat → Int32) → Int32 → Prop) (fun _ _ => False) (fun _ k => wbX7_copies_2 p1 p2 Q  k) n
def wpX7_copies (st : Nat → Int32) (p1 : Int32) (p2 : Int32) (Q : (Nat → Int32) → Prop) : Prop :=
  (∃ n : Nat, wpX7_copies_2 p1 p2 Q  n st (0 : Int32))
set_option maxHeartbeats 4000000 in
theorem metX7_copies (l : Launch) (D : va_G) (kk : Nat → ClassId) (am : Nat → Nat) (sz : Nat) (f : Nat → Int32) (st : Nat → Int32) (p1 : Int32) (p2 : Int32) (Q : (Nat → Int32) → Prop) (h : wpX7_copies st p1 p2 Q) : Met l yX7_copies (ws_ yX7_copies cX7_copies 4 none) { frames := 0, cells := 0, slots := 0, locals := 0 } (va_Pc ([.ref (am 0), .int p1, .int p2] : List Value) (zPc D kk [zM am f, zA (kk 1) (am 1) 252 st] sz)) (va_Qv (fun (u : (Nat → Int32)) => Q u) (zB D (va_A [zM am f, zA (kk 1) (am 1) 252 st] sz) (fun u : (Nat → Int32) => [zM am f, zA (kk 1) (am 1) 252 u])) (va_A [zM am f, zA (kk 1) (am 1) 252 st] sz)) 0 0 (va_A [zM am f, zA (kk 1) (am 1) 252 st] sz) := by
  refine zMet (Qc := fun A => va_Qv (fun (u : (Nat → Int32)) => Q u) (zB D A (fun u : (Nat → Int32) => [zM am f, zA (kk 1) (am 1) 252 u])) A) (by decide) (Nat.le_of_ble_eq_true rfl) ?_
  intro p e s m below meth c A X hP hD hS ls hl
  obtain ⟨hx, hb, hr, hml, hown, hts, hlk, hnm, hK, hN, hA⟩ := X
  have hown : s.vm.findClass "LoseLeagueModel" = some m.cls := hown
  have hl : lv_has ls 4 [(0, .ref (am 0)), (1, .int p1), (2, .int p2)] := hl
  unfold wpX7_copies at h
  refine lv_iconst (v := (0 : Int32)) hx hb dX7_copies_0 (by decide) ?_
  have cut_2 : ∀ (nl2 : Nat) (st : Nat → Int32) (x3 : Int32), wpX7_copies_2 p1 p2 Q  nl2 st x3 → ∀ (H : Heap) (locs : List Loc), va_P D vwCl [zM am f, zA (kk 1) (am 1) 252 st] H → va_D A [zM am f, zA (kk 1) (am 1) 252 st] → va_S A s.heap H locs → ∀ ls : Array Slot, lv_has ls 4 [(3, .int x3), (0, .ref (am 0)), (1, .int p1), (2, .int p2)] → W p l e { frames := 0, cells := 0, slots := 0, locals := 0 } s m ([.ref (am 0), .int p1, .int p2] : List Value).toArray below meth c H locs 0 0 (MQ below (va_Qv (fun (u : (Nat → Int32)) => Q u) (zB D A (fun u : (Nat → Int32) => [zM am f, zA (kk 1) (am 1) 252 u])) A) ([.ref (am 0), .int p1, .int p2] : List Value).toArray s 0 0 A) (F0 m 2 ls []) := by
    intro nl2
    induction nl2 with
    | zero => intro st x3 h; exact absurd h id
    | succ nl2 ih_2 =>
      intro st x3 h H locs hP hD hS ls hl
      have h : wbX7_copies_2 p1 p2 Q  (wpX7_copies_2 p1 p2 Q  nl2) st x3 := h
      unfold wbX7_copies_2 at h
      refine lv_iload_n hx hb dX7_copies_2 rfl (lv_at hl 0 rfl) ?_
      refine lv_bipush (v := (42 : Int32)) hx hb dX7_copies_3 (by decide) ?_
      refine lv_icmp_ge (tgt := 30) hx hb dX7_copies_5 (by decide) (fun c_1 => ?_) (fun c_1 => ?_)
      · have h := h.1 c_1
        exact zr_v hx hb hr hlk hP hD hS (st) [0, 1] rfl (by decide) dX7_copies_30 h
      · have h := h.2 c_1
        refine lv_aload_n hx hb dX7_copies_8 rfl (lv_at hl 1 rfl) ?_
        refine va_get (D := D) (ci := 7) (v := .ref (am 1)) (C := RX7) (T := TX7) (N := 29) hx hb hts in_X7 hown hK hP 0 rfl rfl 0 (Nat.le_of_ble_eq_true rfl) (hts _ q939) (fun _ h9 => h9) rfl dX7_copies_9 ?_
        refine lv_iload_n hx hb dX7_copies_12 rfl (lv_at hl 3 rfl) ?_
        refine lv_iload_n hx hb dX7_copies_13 rfl (lv_at hl 0 rfl) ?_
        refine lv_iadd hx hb dX7_copies_14 ?_
        refine lv_aload_n hx hb dX7_copies_15 rfl (lv_at hl 1 rfl) ?_
        refine va_get (D := D) (ci := 7) (v := .ref (am 1)) (C := RX7) (T := TX7) (N := 29) hx hb hts in_X7 hown hK hP 0 rfl rfl 0 (Nat.le_of_ble_eq_true rfl) (hts _ q939) (fun _ h9 => h9) rfl dX7_copies_16 ?_
        refine lv_iload_n hx hb dX7_copies_19 rfl (lv_at hl 2 rfl) ?_
        refine lv_iload_n hx hb dX7_copies_20 rfl (lv_at hl 0 rfl) ?_
        refine lv_iadd hx hb dX7_copies_21 ?_
        obtain ⟨hin, h⟩ := h
        refine va_iald hx hb hK hP 1 1 rfl rfl hin dX7_copies_22 ?_
        obtain ⟨hin, h⟩ := h
        refine va_iast hx hb hK hP hD hS 1 1 rfl rfl hin dX7_copies_23 (fun H locs hP hD hS => ?_)
        have hP : va_P D vwCl [zM am f, zA (kk 1) (am 1) 252 (upd st (p2 + x3).toNatClampNeg (st (p1 + x3).toNatClampNeg))] H := hP
        have hD : va_D A [zM am f, zA (kk 1) (am 1) 252 (upd st (p2 + x3).toNatClampNeg (st (p1 + x3).toNatClampNeg))] := hD
        refine lv_iinc (v := (x3 + 1)) (lv' := [(3, .int (x3 + 1)), (0, .ref (am 0)), (1, .int p1), (2, .int p2)]) hx hb dX7_copies_24 hl (k := 0) rfl rfl (by decide) rfl (fun ls hl => ?_)
        refine lv_goto (tgt := 2) hx hb dX7_copies_27 (by decide) ?_
        exact ih_2 (upd st (p2 + x3).toNatClampNeg (st (p1 + x3).toNatClampNeg)) (x3 + 1) h _ _ hP hD hS _ (lv_sub hl [0, 1, 2, 3] rfl)
  refine lv_istore_n (lv' := [(3, .int (0 : Int32)), (0, .ref (am 0)), (1, .int p1), (2, .int p2)]) hx hb dX7_copies_1 rfl hl (by decide) rfl (fun ls hl => ?_)
  obtain ⟨n_2, h⟩ := h
  exact cut_2 n_2 st (0 : Int32) h _ _ hP hD hS _ (lv_sub hl [0, 1, 2, 3] rfl)
def wbX7_weeksGo_20 (p1 : Int32) (p2 : Int32) (Q : Int32 → (Nat → Int32) → (Nat → Int32) → Prop) (k20 : (Nat → Int32) → (Nat → Int32) → Int32 → Prop) (f : Nat → Int32) (st : Nat → Int32) (x3 : Int32) : Prop :=
  ((p2 ≤ x3 → (wpX7_owedOn f st (168 : Int32) (fun r_4 => Q r_4 f st))) ∧ (¬ p2 ≤ x3 → (wpX7_weekOn f st (168 : Int32) (0 : Int32) (fun f_6 st_7 => k20 f_6 st_7 (x3 + 1)))))
def wpX7_weeksGo_20 (p1 : Int32) (p2 : Int32) (Q : Int32 → (Nat → Int32) → (Nat → Int32) → Prop) (n : Nat) : (Nat → Int32) → (Nat → Int32) → Int32 → Prop :=
  Nat.rec (motive := fun _ => (Nat → Int32) → (Nat → Int32) → Int32 → Prop) (fun _ _ _ => False) (fun _ k => wbX7_weeksGo_20 p1 p2 Q  k) n
def wpX7_weeksGo (f : Nat → Int32) (st : Nat → Int32) (p1 : Int32) (p2 : Int32) (Q : Int32 → (Nat → Int32) → (Nat → Int32) → Prop) : Prop :=
  (wpX7_copies st p1 (168 : Int32) (fun st_2 => (∃ n : Nat, wpX7_weeksGo_20 p1 p2 Q  n (upd (upd f 17 (0 : Int32)) 18 (0 : Int32)) st_2 (0 : Int32))))
set_option maxHeartbeats 4000000 in
theorem metX7_weeksGo (l : Launch) (D : va_G) (kk : Nat → ClassId) (am : Nat → Nat) (sz : Nat) (f : Nat → Int32) (st : Nat → Int32) (p1 : Int32) (p2 : Int32) (Q : Int32 → (Nat → Int32) → (Nat → Int32) → Prop) (h : wpX7_weeksGo f st p1 p2 Q) : Met l yX7_weeksGo (ws_ yX7_weeksGo cX7_weeksGo 4 (some .int)) { frames := 4, cells := 0, slots := 0, locals := 99 } (va_Pc ([.ref (am 0), .int p1, .int p2] : List Value) (zPc D kk [zM am f, zA (kk 1) (am 1) 252 st] sz)) (va_Qi (fun (r : Int32) (u : (Nat → Int32) × (Nat → Int32)) => Q r u.1 u.2) (zB D (va_A [zM am f, zA (kk 1) (am 1) 252 st] sz) (fun u : (Nat → Int32) × (Nat → Int32) => [zM am u.1, zA (kk 1) (am 1) 252 u.2])) (va_A [zM am f, zA (kk 1) (am 1) 252 st] sz)) 0 0 (va_A [zM am f, zA (kk 1) (am 1) 252 st] sz) := by
  refine zMet (Qc := fun A => va_Qi (fun (r : Int32) (u : (Nat → Int32) × (Nat → Int32)) => Q r u.1 u.2) (zB D A (fun u : (Nat → Int32) × (Nat → Int32) => [zM am u.1, zA (kk 1) (am 1) 252 u.2])) A) (by decide) (Nat.le_of_ble_eq_true rfl) ?_
  intro p e s m below meth c A X hP hD hS ls hl
  obtain ⟨hx, hb, hr, hml, hown, hts, hlk, hnm, hK, hN, hA⟩ := X
  have hown : s.vm.findClass "LoseLeagueModel" = some m.cls := hown
  have hl : lv_has ls 4 [(0, .ref (am 0)), (1, .int p1), (2, .int p2)] := hl
  unfold wpX7_weeksGo at h
  refine lv_aload_n hx hb dX7_weeksGo_0 rfl (lv_at hl 0 rfl) ?_
  refine lv_iload_n hx hb dX7_weeksGo_1 rfl (lv_at hl 1 rfl) ?_
  refine lv_sipush (v := (168 : Int32)) hx hb dX7_weeksGo_2 (by decide) ?_
  have hrc := va_recv hK hP (ci := 7) (q0 := 0) rfl rfl
  refine zc_v (wc := [zM am f, zA (kk 1) (am 1) 252 st]) (wr := []) (w1 := (fun u : (Nat → Int32) => [zM am f, zA (kk 1) (am 1) 252 u])) (rest := []) [0, 1] [] rfl rfl (by decide) (by decide) (by decide) hA hP hD hS (fun hP hD => va_runV (As := [.int p1, .int (168 : Int32)]) (rest := []) ⟨hx, hb, hml, hown, hts⟩ (metX7_copies l D kk am _ f st p1 (168 : Int32) _ h) (cwV 2 hts (lw_V q1189 q1191 qs57 q71 q1192) rfl rfl rfl pdX7_copies ⟨(Nat.le_of_ble_eq_true rfl), (Nat.le_of_ble_eq_true rfl)⟩) (zp_V hK hN hrc hP hD) rfl rfl hl.1 rfl (lv_room (Nat.le_of_ble_eq_true rfl)) dX7_weeksGo_5 ⟨(Nat.le_of_ble_eq_true rfl), (Nat.le_of_ble_eq_true rfl)⟩) (fun u H locs h hP hD hS => ?_)
  obtain ⟨st_2, rfl⟩ : ∃ z, z = u := ⟨_, rfl⟩
  try dsimp only at h
  have hP : va_P D vwCl [zM am f, zA (kk 1) (am 1) 252 st_2] H := hP
  have hD : va_D A [zM am f, zA (kk 1) (am 1) 252 st_2] := hD
  refine lv_aload_n hx hb dX7_weeksGo_8 rfl (lv_at hl 0 rfl) ?_
  refine lv_iconst (v := (0 : Int32)) hx hb dX7_weeksGo_9 (by decide) ?_
  refine va_put (D := D) (ci := 7) (v := .int (0 : Int32)) (C := RX7) (T := TX7) (N := 29) hx hb hts in_X7 tyX7 tyX7_ok nmX7 hown hK hP hD hS 0 rfl rfl 17 (Nat.le_of_ble_eq_true rfl) (hts _ q956) (fun _ h9 => h9) rfl (tyX7_ok 17 (Nat.le_of_ble_eq_true rfl)) rfl rfl (Nat.le_of_ble_eq_true rfl) dX7_weeksGo_10 (fun H locs hP hD hS => ?_)
  have hP : va_P D vwCl [zM am (upd f 17 (0 : Int32)), zA (kk 1) (am 1) 252 st_2] H := hP
  have hD : va_D A [zM am (upd f 17 (0 : Int32)), zA (kk 1) (am 1) 252 st_2] := hD
  refine lv_aload_n hx hb dX7_weeksGo_13 rfl (lv_at hl 0 rfl) ?_
  refine lv_iconst (v := (0 : Int32)) hx hb dX7_weeksGo_14 (by decide) ?_
  refine va_put (D := D) (ci := 7) (v := .int (0 : Int32)) (C := RX7) (T := TX7) (N := 29) hx hb hts in_X7 tyX7 tyX7_ok nmX7 hown hK hP hD hS 0 rfl rfl 18 (Nat.le_of_ble_eq_true rfl) (hts _ q957) (fun _ h9 => h9) rfl (tyX7_ok 18 (Nat.le_of_ble_eq_true rfl)) rfl rfl (Nat.le_of_ble_eq_true rfl) dX7_weeksGo_15 (fun H locs hP hD hS => ?_)
  have hP : va_P D vwCl [zM am (upd (upd f 17 (0 : Int32)) 18 (0 : Int32)), zA (kk 1) (am 1) 252 st_2] H := hP
  have hD : va_D A [zM am (upd (upd f 17 (0 : Int32)) 18 (0 : Int32)), zA (kk 1) (am 1) 252 st_2] := hD
  refine lv_iconst (v := (0 : Int32)) hx hb dX7_weeksGo_18 (by decide) ?_
  have cut_20 : ∀ (nl20 : Nat) (f : Nat → Int32) (st : Nat → Int32) (x3 : Int32), wpX7_weeksGo_20 p1 p2 Q  nl20 f st x3 → ∀ (H : Heap) (locs : List Loc), va_P D vwCl [zM am f, zA (kk 1) (am 1) 252 st] H → va_D A [zM am f, zA (kk 1) (am 1) 252 st] → va_S A s.heap H locs → ∀ ls : Array Slot, lv_has ls 4 [(3, .int x3), (0, .ref (am 0)), (2, .int p2)] → W p l e { frames := 4, cells := 0, slots := 0, locals := 99 } s m ([.ref (am 0), .int p1, .int p2] : List Value).toArray below meth c H locs 0 0 (MQ below (va_Qi (fun (r : Int32) (u : (Nat → Int32) × (Nat → Int32)) => Q r u.1 u.2) (zB D A (fun u : (Nat → Int32) × (Nat → Int32) => [zM am u.1, zA (kk 1) (am 1) 252 u.2])) A) ([.ref (am 0), .int p1, .int p2] : List Value).toArray s 0 0 A) (F0 m 20 ls []) := by
    intro nl20
    induction nl20 with
    | zero => intro f st x3 h; exact absurd h id
    | succ nl20 ih_20 =>
      intro f st x3 h H locs hP hD hS ls hl
      have h : wbX7_weeksGo_20 p1 p2 Q  (wpX7_weeksGo_20 p1 p2 Q  nl20) f st x3 := h
      unfold wbX7_weeksGo_20 at h
      refine lv_iload_n hx hb dX7_weeksGo_20 rfl (lv_at hl 0 rfl) ?_
      refine lv_iload_n hx hb dX7_weeksGo_21 rfl (lv_at hl 2 rfl) ?_
      refine lv_icmp_ge (tgt := 39) hx hb dX7_weeksGo_22 (by decide) (fun c_3 => ?_) (fun c_3 => ?_)
      · have h := h.1 c_3
        refine lv_aload_n hx hb dX7_weeksGo_39 rfl (lv_at hl 1 rfl) ?_
        refine lv_sipush (v := (168 : Int32)) hx hb dX7_weeksGo_40 (by decide) ?_
        have hrc := va_recv hK hP (ci := 7) (q0 := 0) rfl rfl
        refine zc_i (wc := [zM am f, zA (kk 1) (am 1) 252 st]) (wr := []) (w1 := (fun u : Unit => [zM am f, zA (kk 1) (am 1) 252 st])) (rest := []) [0, 1] [] rfl rfl (by decide) (by decide) (by decide) hA hP hD hS (fun hP hD => va_runV (As := [.int (168 : Int32)]) (rest := []) ⟨hx, hb, hml, hown, hts⟩ (metX7_owedOn l D kk am _ f st (168 : Int32) _ h) (cwV 1 hts (lw_V q1097 q1099 qs44 q71 q1100) rfl rfl rfl pdX7_owedOn ⟨(Nat.le_of_ble_eq_true rfl), (Nat.le_of_ble_eq_true rfl)⟩) (zp_V hK hN hrc hP hD) rfl rfl hl.1 rfl (lv_room (Nat.le_of_ble_eq_true rfl)) dX7_weeksGo_43 ⟨(Nat.le_of_ble_eq_true rfl), (Nat.le_of_ble_eq_true rfl)⟩) (fun r_4 u H locs h hP hD hS => ?_)
        try dsimp only at h
        have hP : va_P D vwCl [zM am f, zA (kk 1) (am 1) 252 st] H := hP
        have hD : va_D A [zM am f, zA (kk 1) (am 1) 252 st] := hD
        exact zr_i hx hb hr hlk rfl hP hD hS (f, st) [0, 1] rfl (by decide) dX7_weeksGo_46 h
      · have h := h.2 c_3
        refine lv_aload_n hx hb dX7_weeksGo_25 rfl (lv_at hl 1 rfl) ?_
        refine lv_sipush (v := (168 : Int32)) hx hb dX7_weeksGo_26 (by decide) ?_
        refine lv_iconst (v := (0 : Int32)) hx hb dX7_weeksGo_29 (by decide) ?_
        have hrc := va_recv hK hP (ci := 7) (q0 := 0) rfl rfl
        refine zc_v (wc := [zM am f, zA (kk 1) (am 1) 252 st]) (wr := []) (w1 := (fun u : (Nat → Int32) × (Nat → Int32) => [zM am u.1, zA (kk 1) (am 1) 252 u.2])) (rest := []) [0, 1] [] rfl rfl (by decide) (by decide) (by decide) hA hP hD hS (fun hP hD => va_runV (As := [.int (168 : Int32), .int (0 : Int32)]) (rest := []) ⟨hx, hb, hml, hown, hts⟩ (metX7_weekOn l D kk am _ f st (168 : Int32) (0 : Int32) _ h) (cwV 2 hts (lw_V q1168 q1170 qs53 q71 q1171) rfl rfl rfl pdX7_weekOn ⟨(Nat.le_of_ble_eq_true rfl), (Nat.le_of_ble_eq_true rfl)⟩) (zp_V hK hN hrc hP hD) rfl rfl hl.1 rfl (lv_room (Nat.le_of_ble_eq_true rfl)) dX7_weeksGo_30 ⟨(Nat.le_of_ble_eq_true rfl), (Nat.le_of_ble_eq_true rfl)⟩) (fun u H locs h hP hD hS => ?_)
        obtain ⟨f_6, st_7⟩ := u
        try dsimp only at h
        have hP : va_P D vwCl [zM am f_6, zA (kk 1) (am 1) 252 st_7] H := hP
        have hD : va_D A [zM am f_6, zA (kk 1) (am 1) 252 st_7] := hD
        refine lv_iinc (v := (x3 + 1)) (lv' := [(3, .int (x3 + 1)), (0, .ref (am 0)), (2, .int p2)]) hx hb dX7_weeksGo_33 hl (k := 0) rfl rfl (by decide) rfl (fun ls hl => ?_)
        refine lv_goto (tgt := 20) hx hb dX7_weeksGo_36 (by decide) ?_
        exact ih_20 f_6 st_7 (x3 + 1) h _ _ hP hD hS _ (lv_sub hl [0, 1, 2] rfl)
  refine lv_istore_n (lv' := [(3, .int (0 : Int32)), (0, .ref (am 0)), (1, .int p1), (2, .int p2)]) hx hb dX7_weeksGo_19 rfl hl (by decide) rfl (fun ls hl => ?_)
  obtain ⟨n_20, h⟩ := h
  exact cut_20 n_20 (upd (upd f 17 (0 : Int32)) 18 (0 : Int32)) st_2 (0 : Int32) h _ _ hP hD hS _ (lv_sub hl [0, 1, 3] rfl)
def wpX7_runs (f : Nat → Int32) (st : Nat → Int32) (p1 : Int32) (p2 : Int32) (Q : Int32 → (Nat → Int32) → (Nat → Int32) → Prop) : Prop :=
  (wpX7_in (p1.toInt64) (0 : Int64) (60 : Int64) (fun r_1 => ((r_1 = 0 → Q (-1 : Int32) f st) ∧ (¬ r_1 = 0 → (wpX7_in (p2.toInt64) (0 : Int64) (3 : Int64) (fun r_3 => ((r_3 = 0 → Q (-1 : Int32) f st) ∧ (¬ r_3 = 0 → (wpX7_weeksGo f st (0 : Int32) p1 (fun r_5 f_6 st_7 => ((p2 = 0 → Q (f_6 17) f_6 st_7) ∧ (¬ p2 = 0 → ((p2 = (1 : Int32) → Q (f_6 18) f_6 st_7) ∧ (¬ p2 = (1 : Int32) → ((p2 = (2 : Int32) → Q r_5 f_6 st_7) ∧ (¬ p2 = (2 : Int32) → (wpX7_losersOn f_6 st_7 (168 : Int32) (fun r_11 => Q r_11 f_6 st_7))))))))))))))))))
set_option maxHeartbeats 4000000 in
theorem metX7_runs (l : Launch) (D : va_G) (kk : Nat → ClassId) (am : Nat → Nat) (sz : Nat) (f : Nat → Int32) (st : Nat → Int32) (p1 : Int32) (p2 : Int32) (Q : Int32 → (Nat → Int32) → (Nat → Int32) → Prop) (h : wpX7_runs f st p1 p2 Q) : Met l yX7_runs (ws_ yX7_runs cX7_runs 4 (some .int)) { frames := 5, cells := 0, slots := 0, locals := 122 } (va_Pc ([.ref (am 0), .int p1, .int p2] : List Value) (zPc D kk [zM am f, zA (kk 1) (am 1) 252 st] sz)) (va_Qi (fun (r : Int32) (u : (Nat → Int32) × (Nat → Int32)) => Q r u.1 u.2) (zB D (va_A [zM am f, zA (kk 1) (am 1) 252 st] sz) (fun u : (Nat → Int32) × (Nat → Int32) => [zM am u.1, zA (kk 1) (am 1) 252 u.2])) (va_A [zM am f, zA (kk 1) (am 1) 252 st] sz)) 0 0 (va_A [zM am f, zA (kk 1) (am 1) 252 st] sz) := by
  refine zMet (Qc := fun A => va_Qi (fun (r : Int32) (u : (Nat → Int32) × (Nat → Int32)) => Q r u.1 u.2) (zB D A (fun u : (Nat → Int32) × (Nat → Int32) => [zM am u.1, zA (kk 1) (am 1) 252 u.2])) A) (by decide) (Nat.le_of_ble_eq_true rfl) ?_
  intro p e s m below meth c A X hP hD hS ls hl
  obtain ⟨hx, hb, hr, hml, hown, hts, hlk, hnm, hK, hN, hA⟩ := X
  have hown : s.vm.findClass "LoseLeagueModel" = some m.cls := hown
  have hl : lv_has ls 4 [(0, .ref (am 0)), (1, .int p1), (2, .int p2)] := hl
  unfold wpX7_runs at h
  refine lv_iload_n hx hb dX7_runs_0 rfl (lv_at hl 1 rfl) ?_
  refine lv_i2l hx hb dX7_runs_1 rfl ?_
  refine lv_lconst (v := (0 : Int64)) hx hb dX7_runs_2 (by decide) ?_
  refine lv_ldc2 (v := (60 : Int64)) hx hb hown (hts _ q1184) dX7_runs_3 ?_
  refine zc_i (wc := []) (wr := [zM am f, zA (kk 1) (am 1) 252 st]) (w1 := (fun u : Unit => [])) (rest := []) [] [0, 1] rfl rfl (by decide) (by decide) (by decide) hA hP hD hS (fun hP hD => va_runS (As := [.long (p1.toInt64), .long (0 : Int64), .long (60 : Int64)]) (rest := []) ⟨hx, hb, hml, hown, hts⟩ (metX7_in l D kk _ (p1.toInt64) (0 : Int64) (60 : Int64) _ h) (va_cwS 3 hts (lw_S q1033 q1034 q71 q1035) rfl rfl rfl pdX7_in.2 ⟨(Nat.le_of_ble_eq_true rfl), (Nat.le_of_ble_eq_true rfl)⟩) (zp_S hK hN hP hD) rfl rfl hl.1 rfl (lv_room (Nat.le_of_ble_eq_true rfl)) dX7_runs_6 ⟨(Nat.le_of_ble_eq_true rfl), (Nat.le_of_ble_eq_true rfl)⟩) (fun r_1 u H locs h hP hD hS => ?_)
  try dsimp only at h
  have hP : va_P D vwCl [zM am f, zA (kk 1) (am 1) 252 st] H := hP
  have hD : va_D A [zM am f, zA (kk 1) (am 1) 252 st] := hD
  refine lv_if_eq (tgt := 24) hx hb dX7_runs_9 (by decide) (fun c_2 => ?_) (fun c_2 => ?_)
  · have h := h.1 c_2
    refine lv_iconst (v := (-1 : Int32)) hx hb dX7_runs_24 (by decide) ?_
    exact zr_i hx hb hr hlk rfl hP hD hS (f, st) [0, 1] rfl (by decide) dX7_runs_25 h
  · have h := h.2 c_2
    refine lv_iload_n hx hb dX7_runs_12 rfl (lv_at hl 2 rfl) ?_
    refine lv_i2l hx hb dX7_runs_13 rfl ?_
    refine lv_lconst (v := (0 : Int64)) hx hb dX7_runs_14 (by decide) ?_
    refine lv_ldc2 (v := (3 : Int64)) hx hb hown (hts _ q1137) dX7_runs_15 ?_
    refine zc_i (wc := []) (wr := [zM am f, zA (kk 1) (am 1) 252 st]) (w1 := (fun u : Unit => [])) (rest := []) [] [0, 1] rfl rfl (by decide) (by decide) (by decide) hA hP hD hS (fun hP hD => va_runS (As := [.long (p2.toInt64), .long (0 : Int64), .long (3 : Int64)]) (rest := []) ⟨hx, hb, hml, hown, hts⟩ (metX7_in l D kk _ (p2.toInt64) (0 : Int64) (3 : Int64) _ h) (va_cwS 3 hts (lw_S q1033 q1034 q71 q1035) rfl rfl rfl pdX7_in.2 ⟨(Nat.le_of_ble_eq_true rfl), (Nat.le_of_ble_eq_true rfl)⟩) (zp_S hK hN hP hD) rfl rfl hl.1 rfl (lv_room (Nat.le_of_ble_eq_true rfl)) dX7_runs_18 ⟨(Nat.le_of_ble_eq_true rfl), (Nat.le_of_ble_eq_true rfl)⟩) (fun r_3 u H locs h hP hD hS => ?_)
    try dsimp only at h
    have hP : va_P D vwCl [zM am f, zA (kk 1) (am 1) 252 st] H := hP
    have hD : va_D A [zM am f, zA (kk 1) (am 1) 252 st] := hD
    refine lv_if_ne (tgt := 26) hx hb dX7_runs_21 (by decide) (fun c_4 => ?_) (fun c_4 => ?_)
    · have h := h.2 c_4
      refine lv_aload_n hx hb dX7_runs_26 rfl (lv_at hl 0 rfl) ?_
      refine lv_iconst (v := (0 : Int32)) hx hb dX7_runs_27 (by decide) ?_
      refine lv_iload_n hx hb dX7_runs_28 rfl (lv_at hl 1 rfl) ?_
      have hrc := va_recv hK hP (ci := 7) (q0 := 0) rfl rfl
      refine zc_i (wc := [zM am f, zA (kk 1) (am 1) 252 st]) (wr := []) (w1 := (fun u : (Nat → Int32) × (Nat → Int32) => [zM am u.1, zA (kk 1) (am 1) 252 u.2])) (rest := []) [0, 1] [] rfl rfl (by decide) (by decide) (by decide) hA hP hD hS (fun hP hD => va_runV (As := [.int (0 : Int32), .int p1]) (rest := []) ⟨hx, hb, hml, hown, hts⟩ (metX7_weeksGo l D kk am _ f st (0 : Int32) p1 _ h) (cwV 2 hts (lw_V q1185 q1187 qs56 q71 q1188) rfl rfl rfl pdX7_weeksGo ⟨(Nat.le_of_ble_eq_true rfl), (Nat.le_of_ble_eq_true rfl)⟩) (zp_V hK hN hrc hP hD) rfl rfl hl.1 rfl (lv_room (Nat.le_of_ble_eq_true rfl)) dX7_runs_29 ⟨(Nat.le_of_ble_eq_true rfl), (Nat.le_of_ble_eq_true rfl)⟩) (fun r_5 u H locs h hP hD hS => ?_)
      obtain ⟨f_6, st_7⟩ := u
      try dsimp only at h
      have hP : va_P D vwCl [zM am f_6, zA (kk 1) (am 1) 252 st_7] H := hP
      have hD : va_D A [zM am f_6, zA (kk 1) (am 1) 252 st_7] := hD
      refine lv_istore_n (lv' := [(3, .int r_5), (0, .ref (am 0)), (1, .int p1), (2, .int p2)]) hx hb dX7_runs_32 rfl hl (by decide) rfl (fun ls hl => ?_)
      refine lv_iload_n hx hb dX7_runs_33 rfl (lv_at hl 3 rfl) ?_
      refine lv_if_ne (tgt := 44) hx hb dX7_runs_34 (by decide) (fun c_8 => ?_) (fun c_8 => ?_)
      · have h := h.2 c_8
        refine lv_iload_n hx hb dX7_runs_44 rfl (lv_at hl 3 rfl) ?_
        refine lv_iconst (v := (1 : Int32)) hx hb dX7_runs_45 (by decide) ?_
        refine lv_icmp_ne (tgt := 56) hx hb dX7_runs_46 (by decide) (fun c_9 => ?_) (fun c_9 => ?_)
        · have h := h.2 c_9
          refine lv_iload_n hx hb dX7_runs_56 rfl (lv_at hl 3 rfl) ?_
          refine lv_iconst (v := (2 : Int32)) hx hb dX7_runs_57 (by decide) ?_
          refine lv_icmp_ne (tgt := 65) hx hb dX7_runs_58 (by decide) (fun c_10 => ?_) (fun c_10 => ?_)
          · have h := h.2 c_10
            refine lv_aload_n hx hb dX7_runs_65 rfl (lv_at hl 1 rfl) ?_
            refine lv_sipush (v := (168 : Int32)) hx hb dX7_runs_66 (by decide) ?_
            have hrc := va_recv hK hP (ci := 7) (q0 := 0) rfl rfl
            refine zc_i (wc := [zM am f_6, zA (kk 1) (am 1) 252 st_7]) (wr := []) (w1 := (fun u : Unit => [zM am f_6, zA (kk 1) (am 1) 252 st_7])) (rest := []) [0, 1] [] rfl rfl (by decide) (by decide) (by decide) hA hP hD hS (fun hP hD => va_runV (As := [.int (168 : Int32)]) (rest := []) ⟨hx, hb, hml, hown, hts⟩ (metX7_losersOn l D kk am _ f_6 st_7 (168 : Int32) _ h) (cwV 1 hts (lw_V q1093 q1095 qs43 q71 q1096) rfl rfl rfl pdX7_losersOn ⟨(Nat.le_of_ble_eq_true rfl), (Nat.le_of_ble_eq_true rfl)⟩) (zp_V hK hN hrc hP hD) rfl rfl hl.1 rfl (lv_room (Nat.le_of_ble_eq_true rfl)) dX7_runs_69 ⟨(Nat.le_of_ble_eq_true rfl), (Nat.le_of_ble_eq_true rfl)⟩) (fun r_11 u H locs h hP hD hS => ?_)
            try dsimp only at h
            have hP : va_P D vwCl [zM am f_6, zA (kk 1) (am 1) 252 st_7] H := hP
            have hD : va_D A [zM am f_6, zA (kk 1) (am 1) 252 st_7] := hD
            exact zr_i hx hb hr hlk rfl hP hD hS (f_6, st_7) [0, 1] rfl (by decide) dX7_runs_72 h
          · have h := h.1 c_10
            refine lv_iload_n hx hb dX7_runs_61 rfl (lv_at hl 0 rfl) ?_
            refine lv_goto (tgt := 72) hx hb dX7_runs_62 (by decide) ?_
            exact zr_i hx hb hr hlk rfl hP hD hS (f_6, st_7) [0, 1] rfl (by decide) dX7_runs_72 h
        · have h := h.1 c_9
          refine lv_aload_n hx hb dX7_runs_49 rfl (lv_at hl 1 rfl) ?_
          refine va_get (D := D) (ci := 7) (v := .int (f_6 18)) (C := RX7) (T := TX7) (N := 29) hx hb hts in_X7 hown hK hP 0 rfl rfl 18 (Nat.le_of_ble_eq_true rfl) (hts _ q957) (fun _ h9 => h9) rfl dX7_runs_50 ?_
          refine lv_goto (tgt := 72) hx hb dX7_runs_53 (by decide) ?_
          exact zr_i hx hb hr hlk rfl hP hD hS (f_6, st_7) [0, 1] rfl (by decide) dX7_runs_72 h
      · have h := h.1 c_8
        refine lv_aload_n hx hb dX7_runs_37 rfl (lv_at hl 1 rfl) ?_
        refine va_get (D := D) (ci := 7) (v := .int (f_6 17)) (C := RX7) (T := TX7) (N := 29) hx hb hts in_X7 hown hK hP 0 rfl rfl 17 (Nat.le_of_ble_eq_true rfl) (hts _ q956) (fun _ h9 => h9) rfl dX7_runs_38 ?_
        refine lv_goto (tgt := 72) hx hb dX7_runs_41 (by decide) ?_
        exact zr_i hx hb hr hlk rfl hP hD hS (f_6, st_7) [0, 1] rfl (by decide) dX7_runs_72 h
    · have h := h.1 c_4
      refine lv_iconst (v := (-1 : Int32)) hx hb dX7_runs_24 (by decide) ?_
      exact zr_i hx hb hr hlk rfl hP hD hS (f, st) [0, 1] rfl (by decide) dX7_runs_25 h
def wpX7_ahead (f : Nat → Int32) (st : Nat → Int32) (p1 : Int32) (p2 : Int32) (p3 : Int32) (Q : Int32 → (Nat → Int32) → (Nat → Int32) → Prop) : Prop :=
  (wpX7_isTown f p1 (fun r_1 => ((r_1 = 0 → Q (-1 : Int32) f st) ∧ (¬ r_1 = 0 → (wpX7_in (p2.toInt64) (0 : Int64) (60 : Int64) (fun r_3 => ((r_3 = 0 → Q (-1 : Int32) f st) ∧ (¬ r_3 = 0 → (wpX7_in (p3.toInt64) (0 : Int64) (2 : Int64) (fun r_5 => ((r_5 = 0 → Q (-1 : Int32) f st) ∧ (¬ r_5 = 0 → (wpX7_weeksGo f st (0 : Int32) p2 (fun r_7 f_8 st_9 => (vp_in (((173 : Int32) + ((5 : Int32) * p3)) + p1) 252 ∧ Q (st_9 (((173 : Int32) + ((5 : Int32) * p3)) + p1).toNatClampNeg) f_8 st_9)))))))))))))))
set_option maxHeartbeats 4000000 in
theorem metX7_ahead (l : Launch) (D : va_G) (kk : Nat → ClassId) (am : Nat → Nat) (sz : Nat) (f : Nat → Int32) (st : Nat → Int32) (p1 : Int32) (p2 : Int32) (p3 : Int32) (Q : Int32 → (Nat → Int32) → (Nat → Int32) → Prop) (h : wpX7_ahead f st p1 p2 p3 Q) : Met l yX7_ahead (ws_ yX7_ahead cX7_ahead 4 (some .int)) { frames := 5, cells := 0, slots := 0, locals := 122 } (va_Pc ([.ref (am 0), .int p1, .int p2, .int p3] : List Value) (zPc D kk [zM am f, zA (kk 1) (am 1) 252 st] sz)) (va_Qi (fun (r : Int32) (u : (Nat → Int32) × (Nat → Int32)) => Q r u.1 u.2) (zB D (va_A [zM am f, zA (kk 1) (am 1) 252 st] sz) (fun u : (Nat → Int32) × (Nat → Int32) => [zM am u.1, zA (kk 1) (am 1) 252 u.2])) (va_A [zM am f, zA (kk 1) (am 1) 252 st] sz)) 0 0 (va_A [zM am f, zA (kk 1) (am 1) 252 st] sz) := by
  refine zMet (Qc := fun A => va_Qi (fun (r : Int32) (u : (Nat → Int32) × (Nat → Int32)) => Q r u.1 u.2) (zB D A (fun u : (Nat → Int32) × (Nat → Int32) => [zM am u.1, zA (kk 1) (am 1) 252 u.2])) A) (by decide) (Nat.le_of_ble_eq_true rfl) ?_
  intro p e s m below meth c A X hP hD hS ls hl
  obtain ⟨hx, hb, hr, hml, hown, hts, hlk, hnm, hK, hN, hA⟩ := X
  have hown : s.vm.findClass "LoseLeagueModel" = some m.cls := hown
  have hl : lv_has ls 4 [(0, .ref (am 0)), (1, .int p1), (2, .int p2), (3, .int p3)] := hl
  unfold wpX7_ahead at h
  refine lv_aload_n hx hb dX7_ahead_0 rfl (lv_at hl 0 rfl) ?_
  refine lv_iload_n hx hb dX7_ahead_1 rfl (lv_at hl 1 rfl) ?_
  have hrc := va_recv hK hP (ci := 7) (q0 := 0) rfl rfl
  refine zc_i (wc := [zM am f]) (wr := [zA (kk 1) (am 1) 252 st]) (w1 := (fun u : Unit => [zM am f])) (rest := []) [0] [1] rfl rfl (by decide) (by decide) (by decide) hA hP hD hS (fun hP hD => va_runV (As := [.int p1]) (rest := []) ⟨hx, hb, hml, hown, hts⟩ (metX7_isTown l D kk am _ f p1 _ h) (cwV 1 hts (lw_V q1105 q1107 qs45 q71 q1108) rfl rfl rfl pdX7_isTown ⟨(Nat.le_of_ble_eq_true rfl), (Nat.le_of_ble_eq_true rfl)⟩) (zp_V hK hN hrc hP hD) rfl rfl hl.1 rfl (lv_room (Nat.le_of_ble_eq_true rfl)) dX7_ahead_2 ⟨(Nat.le_of_ble_eq_true rfl), (Nat.le_of_ble_eq_true rfl)⟩) (fun r_1 u H locs h hP hD hS => ?_)
  try dsimp only at h
  have hP : va_P D vwCl [zA (kk 1) (am 1) 252 st, zM am f] H := hP
  have hD : va_D A [zA (kk 1) (am 1) 252 st, zM am f] := hD
  refine lv_if_eq (tgt := 32) hx hb dX7_ahead_5 (by decide) (fun c_2 => ?_) (fun c_2 => ?_)
  · have h := h.1 c_2
    refine lv_iconst (v := (-1 : Int32)) hx hb dX7_ahead_32 (by decide) ?_
    exact zr_i hx hb hr hlk rfl hP hD hS (f, st) [1, 0] rfl (by decide) dX7_ahead_33 h
  · have h := h.2 c_2
    refine lv_iload_n hx hb dX7_ahead_8 rfl (lv_at hl 2 rfl) ?_
    refine lv_i2l hx hb dX7_ahead_9 rfl ?_
    refine lv_lconst (v := (0 : Int64)) hx hb dX7_ahead_10 (by decide) ?_
    refine lv_ldc2 (v := (60 : Int64)) hx hb hown (hts _ q1184) dX7_ahead_11 ?_
    refine zc_i (wc := []) (wr := [zA (kk 1) (am 1) 252 st, zM am f]) (w1 := (fun u : Unit => [])) (rest := []) [] [0, 1] rfl rfl (by decide) (by decide) (by decide) hA hP hD hS (fun hP hD => va_runS (As := [.long (p2.toInt64), .long (0 : Int64), .long (60 : Int64)]) (rest := []) ⟨hx, hb, hml, hown, hts⟩ (metX7_in l D kk _ (p2.toInt64) (0 : Int64) (60 : Int64) _ h) (va_cwS 3 hts (lw_S q1033 q1034 q71 q1035) rfl rfl rfl pdX7_in.2 ⟨(Nat.le_of_ble_eq_true rfl), (Nat.le_of_ble_eq_true rfl)⟩) (zp_S hK hN hP hD) rfl rfl hl.1 rfl (lv_room (Nat.le_of_ble_eq_true rfl)) dX7_ahead_14 ⟨(Nat.le_of_ble_eq_true rfl), (Nat.le_of_ble_eq_true rfl)⟩) (fun r_3 u H locs h hP hD hS => ?_)
    try dsimp only at h
    have hP : va_P D vwCl [zA (kk 1) (am 1) 252 st, zM am f] H := hP
    have hD : va_D A [zA (kk 1) (am 1) 252 st, zM am f] := hD
    refine lv_if_eq (tgt := 32) hx hb dX7_ahead_17 (by decide) (fun c_4 => ?_) (fun c_4 => ?_)
    · have h := h.1 c_4
      refine lv_iconst (v := (-1 : Int32)) hx hb dX7_ahead_32 (by decide) ?_
      exact zr_i hx hb hr hlk rfl hP hD hS (f, st) [1, 0] rfl (by decide) dX7_ahead_33 h
    · have h := h.2 c_4
      refine lv_iload_n hx hb dX7_ahead_20 rfl (lv_at hl 3 rfl) ?_
      refine lv_i2l hx hb dX7_ahead_21 rfl ?_
      refine lv_lconst (v := (0 : Int64)) hx hb dX7_ahead_22 (by decide) ?_
      refine lv_ldc2 (v := (2 : Int64)) hx hb hown (hts _ q1197) dX7_ahead_23 ?_
      refine zc_i (wc := []) (wr := [zA (kk 1) (am 1) 252 st, zM am f]) (w1 := (fun u : Unit => [])) (rest := []) [] [0, 1] rfl rfl (by decide) (by decide) (by decide) hA hP hD hS (fun hP hD => va_runS (As := [.long (p3.toInt64), .long (0 : Int64), .long (2 : Int64)]) (rest := []) ⟨hx, hb, hml, hown, hts⟩ (metX7_in l D kk _ (p3.toInt64) (0 : Int64) (2 : Int64) _ h) (va_cwS 3 hts (lw_S q1033 q1034 q71 q1035) rfl rfl rfl pdX7_in.2 ⟨(Nat.le_of_ble_eq_true rfl), (Nat.le_of_ble_eq_true rfl)⟩) (zp_S hK hN hP hD) rfl rfl hl.1 rfl (lv_room (Nat.le_of_ble_eq_true rfl)) dX7_ahead_26 ⟨(Nat.le_of_ble_eq_true rfl), (Nat.le_of_ble_eq_true rfl)⟩) (fun r_5 u H locs h hP hD hS => ?_)
      try dsimp only at h
      have hP : va_P D vwCl [zA (kk 1) (am 1) 252 st, zM am f] H := hP
      have hD : va_D A [zA (kk 1) (am 1) 252 st, zM am f] := hD
      refine lv_if_ne (tgt := 34) hx hb dX7_ahead_29 (by decide) (fun c_6 => ?_) (fun c_6 => ?_)
      · have h := h.2 c_6
        refine lv_aload_n hx hb dX7_ahead_34 rfl (lv_at hl 0 rfl) ?_
        refine lv_iconst (v := (0 : Int32)) hx hb dX7_ahead_35 (by decide) ?_
        refine lv_iload_n hx hb dX7_ahead_36 rfl (lv_at hl 2 rfl) ?_
        have hrc := va_recv hK hP (ci := 7) (q0 := 1) rfl rfl
        refine zc_i (wc := [zM am f, zA (kk 1) (am 1) 252 st]) (wr := []) (w1 := (fun u : (Nat → Int32) × (Nat → Int32) => [zM am u.1, zA (kk 1) (am 1) 252 u.2])) (rest := []) [1, 0] [] rfl rfl (by decide) (by decide) (by decide) hA hP hD hS (fun hP hD => va_runV (As := [.int (0 : Int32), .int p2]) (rest := []) ⟨hx, hb, hml, hown, hts⟩ (metX7_weeksGo l D kk am _ f st (0 : Int32) p2 _ h) (cwV 2 hts (lw_V q1185 q1187 qs56 q71 q1188) rfl rfl rfl pdX7_weeksGo ⟨(Nat.le_of_ble_eq_true rfl), (Nat.le_of_ble_eq_true rfl)⟩) (zp_V hK hN hrc hP hD) rfl rfl hl.1 rfl (lv_room (Nat.le_of_ble_eq_true rfl)) dX7_ahead_37 ⟨(Nat.le_of_ble_eq_true rfl), (Nat.le_of_ble_eq_true rfl)⟩) (fun r_7 u H locs h hP hD hS => ?_)
        obtain ⟨f_8, st_9⟩ := u
        try dsimp only at h
        have hP : va_P D vwCl [zM am f_8, zA (kk 1) (am 1) 252 st_9] H := hP
        have hD : va_D A [zM am f_8, zA (kk 1) (am 1) 252 st_9] := hD
        refine lv_pop hx hb dX7_ahead_40 rfl ?_
        refine lv_aload_n hx hb dX7_ahead_41 rfl (lv_at hl 0 rfl) ?_
        refine va_get (D := D) (ci := 7) (v := .ref (am 1)) (C := RX7) (T := TX7) (N := 29) hx hb hts in_X7 hown hK hP 0 rfl rfl 0 (Nat.le_of_ble_eq_true rfl) (hts _ q939) (fun _ h9 => h9) rfl dX7_ahead_42 ?_
        refine lv_sipush (v := (173 : Int32)) hx hb dX7_ahead_45 (by decide) ?_
        refine lv_iconst (v := (5 : Int32)) hx hb dX7_ahead_48 (by decide) ?_
        refine lv_iload_n hx hb dX7_ahead_49 rfl (lv_at hl 3 rfl) ?_
        refine lv_imul hx hb dX7_ahead_50 ?_
        refine lv_iadd hx hb dX7_ahead_51 ?_
        refine lv_iload_n hx hb dX7_ahead_52 rfl (lv_at hl 1 rfl) ?_
        refine lv_iadd hx hb dX7_ahead_53 ?_
        obtain ⟨hin, h⟩ := h
        refine va_iald hx hb hK hP 1 1 rfl rfl hin dX7_ahead_54 ?_
        exact zr_i hx hb hr hlk rfl hP hD hS (f_8, st_9) [0, 1] rfl (by decide) dX7_ahead_55 h
      · have h := h.1 c_6
        refine lv_iconst (v := (-1 : Int32)) hx hb dX7_ahead_32 (by decide) ?_
        exact zr_i hx hb hr hlk rfl hP hD hS (f, st) [1, 0] rfl (by decide) dX7_ahead_33 h
def wpX7_loser (f : Nat → Int32) (st : Nat → Int32) (p1 : Int32) (Q : Int32 → (Nat → Int32) → (Nat → Int32) → Prop) : Prop :=
  (wpX7_in (p1.toInt64) (0 : Int64) (60 : Int64) (fun r_1 => ((r_1 = 0 → Q (-1 : Int32) f st) ∧ (¬ r_1 = 0 → (wpX7_weeksGo f st (0 : Int32) (p1 + (1 : Int32)) (fun r_3 f_4 st_5 => Q (f_4 16) f_4 st_5))))))
set_option maxHeartbeats 4000000 in
theorem metX7_loser (l : Launch) (D : va_G) (kk : Nat → ClassId) (am : Nat → Nat) (sz : Nat) (f : Nat → Int32) (st : Nat → Int32) (p1 : Int32) (Q : Int32 → (Nat → Int32) → (Nat → Int32) → Prop) (h : wpX7_loser f st p1 Q) : Met l yX7_loser (ws_ yX7_loser cX7_loser 2 (some .int)) { frames := 5, cells := 0, slots := 0, locals := 122 } (va_Pc ([.ref (am 0), .int p1] : List Value) (zPc D kk [zM am f, zA (kk 1) (am 1) 252 st] sz)) (va_Qi (fun (r : Int32) (u : (Nat → Int32) × (Nat → Int32)) => Q r u.1 u.2) (zB D (va_A [zM am f, zA (kk 1) (am 1) 252 st] sz) (fun u : (Nat → Int32) × (Nat → Int32) => [zM am u.1, zA (kk 1) (am 1) 252 u.2])) (va_A [zM am f, zA (kk 1) (am 1) 252 st] sz)) 0 0 (va_A [zM am f, zA (kk 1) (am 1) 252 st] sz) := by
  refine zMet (Qc := fun A => va_Qi (fun (r : Int32) (u : (Nat → Int32) × (Nat → Int32)) => Q r u.1 u.2) (zB D A (fun u : (Nat → Int32) × (Nat → Int32) => [zM am u.1, zA (kk 1) (am 1) 252 u.2])) A) (by decide) (Nat.le_of_ble_eq_true rfl) ?_
  intro p e s m below meth c A X hP hD hS ls hl
  obtain ⟨hx, hb, hr, hml, hown, hts, hlk, hnm, hK, hN, hA⟩ := X
  have hown : s.vm.findClass "LoseLeagueModel" = some m.cls := hown
  have hl : lv_has ls 2 [(0, .ref (am 0)), (1, .int p1)] := hl
  unfold wpX7_loser at h
  refine lv_iload_n hx hb dX7_loser_0 rfl (lv_at hl 1 rfl) ?_
  refine lv_i2l hx hb dX7_loser_1 rfl ?_
  refine lv_lconst (v := (0 : Int64)) hx hb dX7_loser_2 (by decide) ?_
  refine lv_ldc2 (v := (60 : Int64)) hx hb hown (hts _ q1184) dX7_loser_3 ?_
  refine zc_i (wc := []) (wr := [zM am f, zA (kk 1) (am 1) 252 st]) (w1 := (fun u : Unit => [])) (rest := []) [] [0, 1] rfl rfl (by decide) (by decide) (by decide) hA hP hD hS (fun hP hD => va_runS (As := [.long (p1.toInt64), .long (0 : Int64), .long (60 : Int64)]) (rest := []) ⟨hx, hb, hml, hown, hts⟩ (metX7_in l D kk _ (p1.toInt64) (0 : Int64) (60 : Int64) _ h) (va_cwS 3 hts (lw_S q1033 q1034 q71 q1035) rfl rfl rfl pdX7_in.2 ⟨(Nat.le_of_ble_eq_true rfl), (Nat.le_of_ble_eq_true rfl)⟩) (zp_S hK hN hP hD) rfl rfl hl.1 rfl (lv_room (Nat.le_of_ble_eq_true rfl)) dX7_loser_6 ⟨(Nat.le_of_ble_eq_true rfl), (Nat.le_of_ble_eq_true rfl)⟩) (fun r_1 u H locs h hP hD hS => ?_)
  try dsimp only at h
  have hP : va_P D vwCl [zM am f, zA (kk 1) (am 1) 252 st] H := hP
  have hD : va_D A [zM am f, zA (kk 1) (am 1) 252 st] := hD
  refine lv_if_ne (tgt := 14) hx hb dX7_loser_9 (by decide) (fun c_2 => ?_) (fun c_2 => ?_)
  · have h := h.2 c_2
    refine lv_aload_n hx hb dX7_loser_14 rfl (lv_at hl 0 rfl) ?_
    refine lv_iconst (v := (0 : Int32)) hx hb dX7_loser_15 (by decide) ?_
    refine lv_iload_n hx hb dX7_loser_16 rfl (lv_at hl 1 rfl) ?_
    refine lv_iconst (v := (1 : Int32)) hx hb dX7_loser_17 (by decide) ?_
    refine lv_iadd hx hb dX7_loser_18 ?_
    have hrc := va_recv hK hP (ci := 7) (q0 := 0) rfl rfl
    refine zc_i (wc := [zM am f, zA (kk 1) (am 1) 252 st]) (wr := []) (w1 := (fun u : (Nat → Int32) × (Nat → Int32) => [zM am u.1, zA (kk 1) (am 1) 252 u.2])) (rest := []) [0, 1] [] rfl rfl (by decide) (by decide) (by decide) hA hP hD hS (fun hP hD => va_runV (As := [.int (0 : Int32), .int (p1 + (1 : Int32))]) (rest := []) ⟨hx, hb, hml, hown, hts⟩ (metX7_weeksGo l D kk am _ f st (0 : Int32) (p1 + (1 : Int32)) _ h) (cwV 2 hts (lw_V q1185 q1187 qs56 q71 q1188) rfl rfl rfl pdX7_weeksGo ⟨(Nat.le_of_ble_eq_true rfl), (Nat.le_of_ble_eq_true rfl)⟩) (zp_V hK hN hrc hP hD) rfl rfl hl.1 rfl (lv_room (Nat.le_of_ble_eq_true rfl)) dX7_loser_19 ⟨(Nat.le_of_ble_eq_true rfl), (Nat.le_of_ble_eq_true rfl)⟩) (fun r_3 u H locs h hP hD hS => ?_)
    obtain ⟨f_4, st_5⟩ := u
    try dsimp only at h
    have hP : va_P D vwCl [zM am f_4, zA (kk 1) (am 1) 252 st_5] H := hP
    have hD : va_D A [zM am f_4, zA (kk 1) (am 1) 252 st_5] := hD
    refine lv_pop hx hb dX7_loser_22 rfl ?_
    refine lv_aload_n hx hb dX7_loser_23 rfl (lv_at hl 0 rfl) ?_
    refine va_get (D := D) (ci := 7) (v := .int (f_4 16)) (C := RX7) (T := TX7) (N := 29) hx hb hts in_X7 hown hK hP 0 rfl rfl 16 (Nat.le_of_ble_eq_true rfl) (hts _ q955) (fun _ h9 => h9) rfl dX7_loser_24 ?_
    exact zr_i hx hb hr hlk rfl hP hD hS (f_4, st_5) [0, 1] rfl (by decide) dX7_loser_27 h
  · have h := h.1 c_2
    refine lv_iconst (v := (-1 : Int32)) hx hb dX7_loser_12 (by decide) ?_
    exact zr_i hx hb hr hlk rfl hP hD hS (f, st) [0, 1] rfl (by decide) dX7_loser_13 h
def wbX7_firstLoss_11 (p1 : Int32) (p2 : Int32) (p3 : Int32) (Q : Int32 → (Nat → Int32) → (Nat → Int32) → Prop) (k11 : (Nat → Int32) → (Nat → Int32) → Int32 → Prop) (f : Nat → Int32) (st : Nat → Int32) (x4 : Int32) : Prop :=
  ((p3 ≤ x4 → Q (-4 : Int32) f st) ∧ (¬ p3 ≤ x4 → (wpX7_weekOn f st (168 : Int32) (0 : Int32) (fun f_5 st_6 => (((f_5 16) = p2 → Q x4 f_5 st_6) ∧ (¬ (f_5 16) = p2 → k11 f_5 st_6 (x4 + 1)))))))
def wpX7_firstLoss_11 (p1 : Int32) (p2 : Int32) (p3 : Int32) (Q : Int32 → (Nat → Int32) → (Nat → Int32) → Prop) (n : Nat) : (Nat → Int32) → (Nat → Int32) → Int32 → Prop :=
  Nat.rec (motive := fun _ => (Nat → Int32) → (Nat → Int32) → Int32 → Prop) (fun _ _ _ => False) (fun _ k => wbX7_firstLoss_11 p1 p2 p3 Q  k) n
def wpX7_firstLoss (f : Nat → Int32) (st : Nat → Int32) (p1 : Int32) (p2 : Int32) (p3 : Int32) (Q : Int32 → (Nat → Int32) → (Nat → Int32) → Prop) : Prop :=
  (wpX7_copies st p1 (168 : Int32) (fun st_2 => (∃ n : Nat, wpX7_firstLoss_11 p1 p2 p3 Q  n f st_2 (0 : Int32))))
set_option maxHeartbeats 4000000 in
theorem metX7_firstLoss (l : Launch) (D : va_G) (kk : Nat → ClassId) (am : Nat → Nat) (sz : Nat) (f : Nat → Int32) (st : Nat → Int32) (p1 : Int32) (p2 : Int32) (p3 : Int32) (Q : Int32 → (Nat → Int32) → (Nat → Int32) → Prop) (h : wpX7_firstLoss f st p1 p2 p3 Q) : Met l yX7_firstLoss (ws_ yX7_firstLoss cX7_firstLoss 5 (some .int)) { frames := 4, cells := 0, slots := 0, locals := 99 } (va_Pc ([.ref (am 0), .int p1, .int p2, .int p3] : List Value) (zPc D kk [zM am f, zA (kk 1) (am 1) 252 st] sz)) (va_Qi (fun (r : Int32) (u : (Nat → Int32) × (Nat → Int32)) => Q r u.1 u.2) (zB D (va_A [zM am f, zA (kk 1) (am 1) 252 st] sz) (fun u : (Nat → Int32) × (Nat → Int32) => [zM am u.1, zA (kk 1) (am 1) 252 u.2])) (va_A [zM am f, zA (kk 1) (am 1) 252 st] sz)) 0 0 (va_A [zM am f, zA (kk 1) (am 1) 252 st] sz) := by
  refine zMet (Qc := fun A => va_Qi (fun (r : Int32) (u : (Nat → Int32) × (Nat → Int32)) => Q r u.1 u.2) (zB D A (fun u : (Nat → Int32) × (Nat → Int32) => [zM am u.1, zA (kk 1) (am 1) 252 u.2])) A) (by decide) (Nat.le_of_ble_eq_true rfl) ?_
  intro p e s m below meth c A X hP hD hS ls hl
  obtain ⟨hx, hb, hr, hml, hown, hts, hlk, hnm, hK, hN, hA⟩ := X
  have hown : s.vm.findClass "LoseLeagueModel" = some m.cls := hown
  have hl : lv_has ls 5 [(0, .ref (am 0)), (1, .int p1), (2, .int p2), (3, .int p3)] := hl
  unfold wpX7_firstLoss at h
  refine lv_aload_n hx hb dX7_firstLoss_0 rfl (lv_at hl 0 rfl) ?_
  refine lv_iload_n hx hb dX7_firstLoss_1 rfl (lv_at hl 1 rfl) ?_
  refine lv_sipush (v := (168 : Int32)) hx hb dX7_firstLoss_2 (by decide) ?_
  have hrc := va_recv hK hP (ci := 7) (q0 := 0) rfl rfl
  refine zc_v (wc := [zM am f, zA (kk 1) (am 1) 252 st]) (wr := []) (w1 := (fun u : (Nat → Int32) => [zM am f, zA (kk 1) (am 1) 252 u])) (rest := []) [0, 1] [] rfl rfl (by decide) (by decide) (by decide) hA hP hD hS (fun hP hD => va_runV (As := [.int p1, .int (168 : Int32)]) (rest := []) ⟨hx, hb, hml, hown, hts⟩ (metX7_copies l D kk am _ f st p1 (168 : Int32) _ h) (cwV 2 hts (lw_V q1189 q1191 qs57 q71 q1192) rfl rfl rfl pdX7_copies ⟨(Nat.le_of_ble_eq_true rfl), (Nat.le_of_ble_eq_true rfl)⟩) (zp_V hK hN hrc hP hD) rfl rfl hl.1 rfl (lv_room (Nat.le_of_ble_eq_true rfl)) dX7_firstLoss_5 ⟨(Nat.le_of_ble_eq_true rfl), (Nat.le_of_ble_eq_true rfl)⟩) (fun u H locs h hP hD hS => ?_)
  obtain ⟨st_2, rfl⟩ : ∃ z, z = u := ⟨_, rfl⟩
  try dsimp only at h
  have hP : va_P D vwCl [zM am f, zA (kk 1) (am 1) 252 st_2] H := hP
  have hD : va_D A [zM am f, zA (kk 1) (am 1) 252 st_2] := hD
  refine lv_iconst (v := (0 : Int32)) hx hb dX7_firstLoss_8 (by decide) ?_
  have cut_11 : ∀ (nl11 : Nat) (f : Nat → Int32) (st : Nat → Int32) (x4 : Int32), wpX7_firstLoss_11 p1 p2 p3 Q  nl11 f st x4 → ∀ (H : Heap) (locs : List Loc), va_P D vwCl [zM am f, zA (kk 1) (am 1) 252 st] H → va_D A [zM am f, zA (kk 1) (am 1) 252 st] → va_S A s.heap H locs → ∀ ls : Array Slot, lv_has ls 5 [(4, .int x4), (0, .ref (am 0)), (2, .int p2), (3, .int p3)] → W p l e { frames := 4, cells := 0, slots := 0, locals := 99 } s m ([.ref (am 0), .int p1, .int p2, .int p3] : List Value).toArray below meth c H locs 0 0 (MQ below (va_Qi (fun (r : Int32) (u : (Nat → Int32) × (Nat → Int32)) => Q r u.1 u.2) (zB D A (fun u : (Nat → Int32) × (Nat → Int32) => [zM am u.1, zA (kk 1) (am 1) 252 u.2])) A) ([.ref (am 0), .int p1, .int p2, .int p3] : List Value).toArray s 0 0 A) (F0 m 11 ls []) := by
    intro nl11
    induction nl11 with
    | zero => intro f st x4 h; exact absurd h id
    | succ nl11 ih_11 =>
      intro f st x4 h H locs hP hD hS ls hl
      have h : wbX7_firstLoss_11 p1 p2 p3 Q  (wpX7_firstLoss_11 p1 p2 p3 Q  nl11) f st x4 := h
      unfold wbX7_firstLoss_11 at h
      refine lv_iload hx hb dX7_firstLoss_11 (lv_at hl 0 rfl) ?_
      refine lv_iload_n hx hb dX7_firstLoss_13 rfl (lv_at hl 3 rfl) ?_
      refine lv_icmp_ge (tgt := 42) hx hb dX7_firstLoss_14 (by decide) (fun c_3 => ?_) (fun c_3 => ?_)
      · have h := h.1 c_3
        refine lv_bipush (v := (-4 : Int32)) hx hb dX7_firstLoss_42 (by decide) ?_
        exact zr_i hx hb hr hlk rfl hP hD hS (f, st) [0, 1] rfl (by decide) dX7_firstLoss_44 h
      · have h := h.2 c_3
        refine lv_aload_n hx hb dX7_firstLoss_17 rfl (lv_at hl 1 rfl) ?_
        refine lv_sipush (v := (168 : Int32)) hx hb dX7_firstLoss_18 (by decide) ?_
        refine lv_iconst (v := (0 : Int32)) hx hb dX7_firstLoss_21 (by decide) ?_
        have hrc := va_recv hK hP (ci := 7) (q0 := 0) rfl rfl
        refine zc_v (wc := [zM am f, zA (kk 1) (am 1) 252 st]) (wr := []) (w1 := (fun u : (Nat → Int32) × (Nat → Int32) => [zM am u.1, zA (kk 1) (am 1) 252 u.2])) (rest := []) [0, 1] [] rfl rfl (by decide) (by decide) (by decide) hA hP hD hS (fun hP hD => va_runV (As := [.int (168 : Int32), .int (0 : Int32)]) (rest := []) ⟨hx, hb, hml, hown, hts⟩ (metX7_weekOn l D kk am _ f st (168 : Int32) (0 : Int32) _ h) (cwV 2 hts (lw_V q1168 q1170 qs53 q71 q1171) rfl rfl rfl pdX7_weekOn ⟨(Nat.le_of_ble_eq_true rfl), (Nat.le_of_ble_eq_true rfl)⟩) (zp_V hK hN hrc hP hD) rfl rfl hl.1 rfl (lv_room (Nat.le_of_ble_eq_true rfl)) dX7_firstLoss_22 ⟨(Nat.le_of_ble_eq_true rfl), (Nat.le_of_ble_eq_true rfl)⟩) (fun u H locs h hP hD hS => ?_)
        obtain ⟨f_5, st_6⟩ := u
        try dsimp only at h
        have hP : va_P D vwCl [zM am f_5, zA (kk 1) (am 1) 252 st_6] H := hP
        have hD : va_D A [zM am f_5, zA (kk 1) (am 1) 252 st_6] := hD
        refine lv_aload_n hx hb dX7_firstLoss_25 rfl (lv_at hl 1 rfl) ?_
        refine va_get (D := D) (ci := 7) (v := .int (f_5 16)) (C := RX7) (T := TX7) (N := 29) hx hb hts in_X7 hown hK hP 0 rfl rfl 16 (Nat.le_of_ble_eq_true rfl) (hts _ q955) (fun _ h9 => h9) rfl dX7_firstLoss_26 ?_
        refine lv_iload_n hx hb dX7_firstLoss_29 rfl (lv_at hl 2 rfl) ?_
        refine lv_icmp_ne (tgt := 36) hx hb dX7_firstLoss_30 (by decide) (fun c_7 => ?_) (fun c_7 => ?_)
        · have h := h.2 c_7
          refine lv_iinc (v := (x4 + 1)) (lv' := [(4, .int (x4 + 1)), (0, .ref (am 0)), (2, .int p2), (3, .int p3)]) hx hb dX7_firstLoss_36 hl (k := 0) rfl rfl (by decide) rfl (fun ls hl => ?_)
          refine lv_goto (tgt := 11) hx hb dX7_firstLoss_39 (by decide) ?_
          exact ih_11 f_5 st_6 (x4 + 1) h _ _ hP hD hS _ (lv_sub hl [0, 1, 2, 3] rfl)
        · have h := h.1 c_7
          refine lv_iload hx hb dX7_firstLoss_33 (lv_at hl 0 rfl) ?_
          exact zr_i hx hb hr hlk rfl hP hD hS (f_5, st_6) [0, 1] rfl (by decide) dX7_firstLoss_35 h
  refine lv_istore (lv' := [(4, .int (0 : Int32)), (0, .ref (am 0)), (1, .int p1), (2, .int p2), (3, .int p3)]) hx hb dX7_firstLoss_9 hl (by decide) rfl (fun ls hl => ?_)
  obtain ⟨n_11, h⟩ := h
  exact cut_11 n_11 f st_2 (0 : Int32) h _ _ hP hD hS _ (lv_sub hl [0, 1, 3, 4] rfl)
def wpX7_loses (f : Nat → Int32) (st : Nat → Int32) (p1 : Int32) (Q : Int32 → (Nat → Int32) → (Nat → Int32) → Prop) : Prop :=
  (wpX7_isTown f p1 (fun r_1 => ((r_1 = 0 → Q (-1 : Int32) f st) ∧ (¬ r_1 = 0 → (wpX7_firstLoss f st (0 : Int32) p1 (61 : Int32) (fun r_3 f_4 st_5 => Q r_3 f_4 st_5))))))
set_option maxHeartbeats 4000000 in
theorem metX7_loses (l : Launch) (D : va_G) (kk : Nat → ClassId) (am : Nat → Nat) (sz : Nat) (f : Nat → Int32) (st : Nat → Int32) (p1 : Int32) (Q : Int32 → (Nat → Int32) → (Nat → Int32) → Prop) (h : wpX7_loses f st p1 Q) : Met l yX7_loses (ws_ yX7_loses cX7_loses 2 (some .int)) { frames := 5, cells := 0, slots := 0, locals := 123 } (va_Pc ([.ref (am 0), .int p1] : List Value) (zPc D kk [zM am f, zA (kk 1) (am 1) 252 st] sz)) (va_Qi (fun (r : Int32) (u : (Nat → Int32) × (Nat → Int32)) => Q r u.1 u.2) (zB D (va_A [zM am f, zA (kk 1) (am 1) 252 st] sz) (fun u : (Nat → Int32) × (Nat → Int32) => [zM am u.1, zA (kk 1) (am 1) 252 u.2])) (va_A [zM am f, zA (kk 1) (am 1) 252 st] sz)) 0 0 (va_A [zM am f, zA (kk 1) (am 1) 252 st] sz) := by
  refine zMet (Qc := fun A => va_Qi (fun (r : Int32) (u : (Nat → Int32) × (Nat → Int32)) => Q r u.1 u.2) (zB D A (fun u : (Nat → Int32) × (Nat → Int32) => [zM am u.1, zA (kk 1) (am 1) 252 u.2])) A) (by decide) (Nat.le_of_ble_eq_true rfl) ?_
  intro p e s m below meth c A X hP hD hS ls hl
  obtain ⟨hx, hb, hr, hml, hown, hts, hlk, hnm, hK, hN, hA⟩ := X
  have hown : s.vm.findClass "LoseLeagueModel" = some m.cls := hown
  have hl : lv_has ls 2 [(0, .ref (am 0)), (1, .int p1)] := hl
  unfold wpX7_loses at h
  refine lv_aload_n hx hb dX7_loses_0 rfl (lv_at hl 0 rfl) ?_
  refine lv_iload_n hx hb dX7_loses_1 rfl (lv_at hl 1 rfl) ?_
  have hrc := va_recv hK hP (ci := 7) (q0 := 0) rfl rfl
  refine zc_i (wc := [zM am f]) (wr := [zA (kk 1) (am 1) 252 st]) (w1 := (fun u : Unit => [zM am f])) (rest := []) [0] [1] rfl rfl (by decide) (by decide) (by decide) hA hP hD hS (fun hP hD => va_runV (As := [.int p1]) (rest := []) ⟨hx, hb, hml, hown, hts⟩ (metX7_isTown l D kk am _ f p1 _ h) (cwV 1 hts (lw_V q1105 q1107 qs45 q71 q1108) rfl rfl rfl pdX7_isTown ⟨(Nat.le_of_ble_eq_true rfl), (Nat.le_of_ble_eq_true rfl)⟩) (zp_V hK hN hrc hP hD) rfl rfl hl.1 rfl (lv_room (Nat.le_of_ble_eq_true rfl)) dX7_loses_2 ⟨(Nat.le_of_ble_eq_true rfl), (Nat.le_of_ble_eq_true rfl)⟩) (fun r_1 u H locs h hP hD hS => ?_)
  try dsimp only at h
  have hP : va_P D vwCl [zA (kk 1) (am 1) 252 st, zM am f] H := hP
  have hD : va_D A [zA (kk 1) (am 1) 252 st, zM am f] := hD
  refine lv_if_eq (tgt := 19) hx hb dX7_loses_5 (by decide) (fun c_2 => ?_) (fun c_2 => ?_)
  · have h := h.1 c_2
    refine lv_iconst (v := (-1 : Int32)) hx hb dX7_loses_19 (by decide) ?_
    exact zr_i hx hb hr hlk rfl hP hD hS (f, st) [1, 0] rfl (by decide) dX7_loses_20 h
  · have h := h.2 c_2
    refine lv_aload_n hx hb dX7_loses_8 rfl (lv_at hl 0 rfl) ?_
    refine lv_iconst (v := (0 : Int32)) hx hb dX7_loses_9 (by decide) ?_
    refine lv_iload_n hx hb dX7_loses_10 rfl (lv_at hl 1 rfl) ?_
    refine lv_bipush (v := (61 : Int32)) hx hb dX7_loses_11 (by decide) ?_
    have hrc := va_recv hK hP (ci := 7) (q0 := 1) rfl rfl
    refine zc_i (wc := [zM am f, zA (kk 1) (am 1) 252 st]) (wr := []) (w1 := (fun u : (Nat → Int32) × (Nat → Int32) => [zM am u.1, zA (kk 1) (am 1) 252 u.2])) (rest := []) [1, 0] [] rfl rfl (by decide) (by decide) (by decide) hA hP hD hS (fun hP hD => va_runV (As := [.int (0 : Int32), .int p1, .int (61 : Int32)]) (rest := []) ⟨hx, hb, hml, hown, hts⟩ (metX7_firstLoss l D kk am _ f st (0 : Int32) p1 (61 : Int32) _ h) (cwV 3 hts (lw_V q1206 q1208 qs58 q71 q1209) rfl rfl rfl pdX7_firstLoss ⟨(Nat.le_of_ble_eq_true rfl), (Nat.le_of_ble_eq_true rfl)⟩) (zp_V hK hN hrc hP hD) rfl rfl hl.1 rfl (lv_room (Nat.le_of_ble_eq_true rfl)) dX7_loses_13 ⟨(Nat.le_of_ble_eq_true rfl), (Nat.le_of_ble_eq_true rfl)⟩) (fun r_3 u H locs h hP hD hS => ?_)
    obtain ⟨f_4, st_5⟩ := u
    try dsimp only at h
    have hP : va_P D vwCl [zM am f_4, zA (kk 1) (am 1) 252 st_5] H := hP
    have hD : va_D A [zM am f_4, zA (kk 1) (am 1) 252 st_5] := hD
    refine lv_goto (tgt := 20) hx hb dX7_loses_16 (by decide) ?_
    exact zr_i hx hb hr hlk rfl hP hD hS (f_4, st_5) [0, 1] rfl (by decide) dX7_loses_20 h
def wbX7_ordered_26 (p1 : Int32) (Q : Int32 → (Nat → Int32) → Prop) (k26 : (Nat → Int32) → Int32 → Int32 → Int32 → Int32 → Prop) (st : Nat → Int32) (x2 : Int32) (x3 : Int32) (x4 : Int32) (x5 : Int32) : Prop :=
  ((x5 < 0 → ((x3 = (((1 : Int32) <<< (x2 &&& 31)) - (1 : Int32)) → Q (1 : Int32) st) ∧ (¬ x3 = (((1 : Int32) <<< (x2 &&& 31)) - (1 : Int32)) → Q (0 : Int32) st))) ∧ (¬ x5 < 0 → ((¬ x2 = 0) ∧ (∀ x3_6 : Int32, x3_6 = (x3 ||| ((1 : Int32) <<< ((x4 - x4 / x2 * x2) &&& 31))) → (vp_in ((20 : Int32) + (x4 - x4 / x2 * x2)) 252 ∧ (∀ v_7 : Int32, v_7 = (st ((20 : Int32) + (x4 - x4 / x2 * x2)).toNatClampNeg) → (vp_in ((230 : Int32) + x5) 252 ∧ (vp_in ((30 : Int32) + (x4 - x4 / x2 * x2)) 252 ∧ (∀ v_8 : Int32, v_8 = ((upd st ((230 : Int32) + x5).toNatClampNeg v_7) ((30 : Int32) + (x4 - x4 / x2 * x2)).toNatClampNeg) → (vp_in ((240 : Int32) + x5) 252 ∧ ((¬ x2 = 0) ∧ k26 (upd (upd st ((230 : Int32) + x5).toNatClampNeg v_7) ((240 : Int32) + x5).toNatClampNeg v_8) x2 x3_6 (x4 / x2) (x5 + (-1)))))))))))))
def wpX7_ordered_26 (p1 : Int32) (Q : Int32 → (Nat → Int32) → Prop) (n : Nat) : (Nat → Int32) → Int32 → Int32 → Int32 → Int32 → Prop :=
  Nat.rec (motive := fun _ => (Nat → Int32) → Int32 → Int32 → Int32 → Int32 → Prop) (fun _ _ _ _ _ => False) (fun _ k => wbX7_ordered_26 p1 Q  k) n
def wpX7_ordered (st : Nat → Int32) (p1 : Int32) (Q : Int32 → (Nat → Int32) → Prop) : Prop :=
  (∀ x2_1 : Int32, x2_1 = (st (40 : Int32).toNatClampNeg) → (wpX7_copies st (0 : Int32) (210 : Int32) (fun st_3 => (∃ n : Nat, wpX7_ordered_26 p1 Q  n st_3 x2_1 (0 : Int32) p1 (x2_1 - (1 : Int32))))))
set_option maxHeartbeats 4000000 in
theorem metX7_ordered (l : Launch) (D : va_G) (kk : Nat → ClassId) (am : Nat → Nat) (sz : Nat) (f : Nat → Int32) (st : Nat → Int32) (p1 : Int32) (Q : Int32 → (Nat → Int32) → Prop) (h : wpX7_ordered st p1 Q) : Met l yX7_ordered (ws_ yX7_ordered cX7_ordered 7 (some .boolean)) { frames := 1, cells := 0, slots := 0, locals := 23 } (va_Pc ([.ref (am 0), .int p1] : List Value) (zPc D kk [zM am f, zA (kk 1) (am 1) 252 st] sz)) (va_Qi (fun (r : Int32) (u : (Nat → Int32)) => Q r u) (zB D (va_A [zM am f, zA (kk 1) (am 1) 252 st] sz) (fun u : (Nat → Int32) => [zM am f, zA (kk 1) (am 1) 252 u])) (va_A [zM am f, zA (kk 1) (am 1) 252 st] sz)) 0 0 (va_A [zM am f, zA (kk 1) (am 1) 252 st] sz) := by
  refine zMet (Qc := fun A => va_Qi (fun (r : Int32) (u : (Nat → Int32)) => Q r u) (zB D A (fun u : (Nat → Int32) => [zM am f, zA (kk 1) (am 1) 252 u])) A) (by decide) (Nat.le_of_ble_eq_true rfl) ?_
  intro p e s m below meth c A X hP hD hS ls hl
  obtain ⟨hx, hb, hr, hml, hown, hts, hlk, hnm, hK, hN, hA⟩ := X
  have hown : s.vm.findClass "LoseLeagueModel" = some m.cls := hown
  have hl : lv_has ls 7 [(0, .ref (am 0)), (1, .int p1)] := hl
  unfold wpX7_ordered at h
  refine lv_aload_n hx hb dX7_ordered_0 rfl (lv_at hl 0 rfl) ?_
  refine va_get (D := D) (ci := 7) (v := .ref (am 1)) (C := RX7) (T := TX7) (N := 29) hx hb hts in_X7 hown hK hP 0 rfl rfl 0 (Nat.le_of_ble_eq_true rfl) (hts _ q939) (fun _ h9 => h9) rfl dX7_ordered_1 ?_
  refine lv_bipush (v := (40 : Int32)) hx hb dX7_ordered_4 (by decide) ?_
  refine va_iald hx hb hK hP 1 1 rfl rfl (by unfold vp_in; decide) dX7_ordered_6 ?_
  refine lv_topi (fun x2_1 ex2_1 => ?_)
  have h := h x2_1 ex2_1
  refine lv_istore_n (lv' := [(2, .int x2_1), (0, .ref (am 0)), (1, .int p1)]) hx hb dX7_ordered_7 rfl hl (by decide) rfl (fun ls hl => ?_)
  refine lv_iconst (v := (0 : Int32)) hx hb dX7_ordered_8 (by decide) ?_
  refine lv_istore_n (lv' := [(3, .int (0 : Int32)), (2, .int x2_1), (0, .ref (am 0)), (1, .int p1)]) hx hb dX7_ordered_9 rfl hl (by decide) rfl (fun ls hl => ?_)
  refine lv_iload_n hx hb dX7_ordered_10 rfl (lv_at hl 3 rfl) ?_
  refine lv_istore (lv' := [(4, .int p1), (3, .int (0 : Int32)), (2, .int x2_1), (0, .ref (am 0)), (1, .int p1)]) hx hb dX7_ordered_11 hl (by decide) rfl (fun ls hl => ?_)
  refine lv_aload_n hx hb dX7_ordered_13 rfl (lv_at hl 3 rfl) ?_
  refine lv_iconst (v := (0 : Int32)) hx hb dX7_ordered_14 (by decide) ?_
  refine lv_sipush (v := (210 : Int32)) hx hb dX7_ordered_15 (by decide) ?_
  have hrc := va_recv hK hP (ci := 7) (q0 := 0) rfl rfl
  refine zc_v (wc := [zM am f, zA (kk 1) (am 1) 252 st]) (wr := []) (w1 := (fun u : (Nat → Int32) => [zM am f, zA (kk 1) (am 1) 252 u])) (rest := []) [0, 1] [] rfl rfl (by decide) (by decide) (by decide) hA hP hD hS (fun hP hD => va_runV (As := [.int (0 : Int32), .int (210 : Int32)]) (rest := []) ⟨hx, hb, hml, hown, hts⟩ (metX7_copies l D kk am _ f st (0 : Int32) (210 : Int32) _ h) (cwV 2 hts (lw_V q1189 q1191 qs57 q71 q1192) rfl rfl rfl pdX7_copies ⟨(Nat.le_of_ble_eq_true rfl), (Nat.le_of_ble_eq_true rfl)⟩) (zp_V hK hN hrc hP hD) rfl rfl hl.1 rfl (lv_room (Nat.le_of_ble_eq_true rfl)) dX7_ordered_18 ⟨(Nat.le_of_ble_eq_true rfl), (Nat.le_of_ble_eq_true rfl)⟩) (fun u H locs h hP hD hS => ?_)
  obtain ⟨st_3, rfl⟩ : ∃ z, z = u := ⟨_, rfl⟩
  try dsimp only at h
  have hP : va_P D vwCl [zM am f, zA (kk 1) (am 1) 252 st_3] H := hP
  have hD : va_D A [zM am f, zA (kk 1) (am 1) 252 st_3] := hD
  refine lv_iload_n hx hb dX7_ordered_21 rfl (lv_at hl 2 rfl) ?_
  refine lv_iconst (v := (1 : Int32)) hx hb dX7_ordered_22 (by decide) ?_
  refine lv_isub hx hb dX7_ordered_23 ?_
  have cut_26 : ∀ (nl26 : Nat) (st : Nat → Int32) (x2 : Int32) (x3 : Int32) (x4 : Int32) (x5 : Int32), wpX7_ordered_26 p1 Q  nl26 st x2 x3 x4 x5 → ∀ (H : Heap) (locs : List Loc), va_P D vwCl [zM am f, zA (kk 1) (am 1) 252 st] H → va_D A [zM am f, zA (kk 1) (am 1) 252 st] → va_S A s.heap H locs → ∀ ls : Array Slot, lv_has ls 7 [(2, .int x2), (3, .int x3), (4, .int x4), (5, .int x5), (0, .ref (am 0))] → W p l e { frames := 1, cells := 0, slots := 0, locals := 23 } s m ([.ref (am 0), .int p1] : List Value).toArray below meth c H locs 0 0 (MQ below (va_Qi (fun (r : Int32) (u : (Nat → Int32)) => Q r u) (zB D A (fun u : (Nat → Int32) => [zM am f, zA (kk 1) (am 1) 252 u])) A) ([.ref (am 0), .int p1] : List Value).toArray s 0 0 A) (F0 m 26 ls []) := by
    intro nl26
    induction nl26 with
    | zero => intro st x2 x3 x4 x5 h; exact absurd h id
    | succ nl26 ih_26 =>
      intro st x2 x3 x4 x5 h H locs hP hD hS ls hl
      have h : wbX7_ordered_26 p1 Q  (wpX7_ordered_26 p1 Q  nl26) st x2 x3 x4 x5 := h
      unfold wbX7_ordered_26 at h
      refine lv_iload hx hb dX7_ordered_26 (lv_at hl 3 rfl) ?_
      refine lv_if_lt (tgt := 98) hx hb dX7_ordered_28 (by decide) (fun c_4 => ?_) (fun c_4 => ?_)
      · have h := h.1 c_4
        refine lv_iload_n hx hb dX7_ordered_98 rfl (lv_at hl 1 rfl) ?_
        refine lv_iconst (v := (1 : Int32)) hx hb dX7_ordered_99 (by decide) ?_
        refine lv_iload_n hx hb dX7_ordered_100 rfl (lv_at hl 0 rfl) ?_
        refine lv_ishl hx hb dX7_ordered_101 ?_
        refine lv_iconst (v := (1 : Int32)) hx hb dX7_ordered_102 (by decide) ?_
        refine lv_isub hx hb dX7_ordered_103 ?_
        refine lv_icmp_ne (tgt := 111) hx hb dX7_ordered_104 (by decide) (fun c_5 => ?_) (fun c_5 => ?_)
        · have h := h.2 c_5
          refine lv_iconst (v := (0 : Int32)) hx hb dX7_ordered_111 (by decide) ?_
          exact zr_i hx hb hr hlk rfl hP hD hS (st) [0, 1] rfl (by decide) dX7_ordered_112 h
        · have h := h.1 c_5
          refine lv_iconst (v := (1 : Int32)) hx hb dX7_ordered_107 (by decide) ?_
          refine lv_goto (tgt := 112) hx hb dX7_ordered_108 (by decide) ?_
          exact zr_i hx hb hr hlk rfl hP hD hS (st) [0, 1] rfl (by decide) dX7_ordered_112 h
      · have h := h.2 c_4
        refine lv_iload hx hb dX7_ordered_31 (lv_at hl 2 rfl) ?_
        refine lv_iload_n hx hb dX7_ordered_33 rfl (lv_at hl 0 rfl) ?_
        obtain ⟨hne, h⟩ := h
        refine lv_irem hx hb dX7_ordered_34 hne ?_
        refine lv_istore (lv' := [(6, .int (x4 - x4 / x2 * x2)), (2, .int x2), (3, .int x3), (4, .int x4), (5, .int x5), (0, .ref (am 0))]) hx hb dX7_ordered_35 hl (by decide) rfl (fun ls hl => ?_)
        refine lv_iload_n hx hb dX7_ordered_37 rfl (lv_at hl 2 rfl) ?_
        refine lv_iconst (v := (1 : Int32)) hx hb dX7_ordered_38 (by decide) ?_
        refine lv_iload hx hb dX7_ordered_39 (lv_at hl 0 rfl) ?_
        refine lv_ishl hx hb dX7_ordered_41 ?_
        refine lv_ior hx hb dX7_ordered_42 ?_
        refine lv_topi (fun x3_6 ex3_6 => ?_)
        have h := h x3_6 ex3_6
        refine lv_istore_n (lv' := [(3, .int x3_6), (6, .int (x4 - x4 / x2 * x2)), (2, .int x2), (4, .int x4), (5, .int x5), (0, .ref (am 0))]) hx hb dX7_ordered_43 rfl hl (by decide) rfl (fun ls hl => ?_)
        refine lv_aload_n hx hb dX7_ordered_44 rfl (lv_at hl 5 rfl) ?_
        refine va_get (D := D) (ci := 7) (v := .ref (am 1)) (C := RX7) (T := TX7) (N := 29) hx hb hts in_X7 hown hK hP 0 rfl rfl 0 (Nat.le_of_ble_eq_true rfl) (hts _ q939) (fun _ h9 => h9) rfl dX7_ordered_45 ?_
        refine lv_sipush (v := (230 : Int32)) hx hb dX7_ordered_48 (by decide) ?_
        refine lv_iload hx hb dX7_ordered_51 (lv_at hl 4 rfl) ?_
        refine lv_iadd hx hb dX7_ordered_53 ?_
        refine lv_aload_n hx hb dX7_ordered_54 rfl (lv_at hl 5 rfl) ?_
        refine va_get (D := D) (ci := 7) (v := .ref (am 1)) (C := RX7) (T := TX7) (N := 29) hx hb hts in_X7 hown hK hP 0 rfl rfl 0 (Nat.le_of_ble_eq_true rfl) (hts _ q939) (fun _ h9 => h9) rfl dX7_ordered_55 ?_
        refine lv_bipush (v := (20 : Int32)) hx hb dX7_ordered_58 (by decide) ?_
        refine lv_iload hx hb dX7_ordered_60 (lv_at hl 1 rfl) ?_
        refine lv_iadd hx hb dX7_ordered_62 ?_
        obtain ⟨hin, h⟩ := h
        refine va_iald hx hb hK hP 1 1 rfl rfl hin dX7_ordered_63 ?_
        refine lv_topi (fun v_7 ev_7 => ?_)
        have h := h v_7 ev_7
        obtain ⟨hin, h⟩ := h
        refine va_iast hx hb hK hP hD hS 1 1 rfl rfl hin dX7_ordered_64 (fun H locs hP hD hS => ?_)
        have hP : va_P D vwCl [zM am f, zA (kk 1) (am 1) 252 (upd st ((230 : Int32) + x5).toNatClampNeg v_7)] H := hP
        have hD : va_D A [zM am f, zA (kk 1) (am 1) 252 (upd st ((230 : Int32) + x5).toNatClampNeg v_7)] := hD
        refine lv_aload_n hx hb dX7_ordered_65 rfl (lv_at hl 5 rfl) ?_
        refine va_get (D := D) (ci := 7) (v := .ref (am 1)) (C := RX7) (T := TX7) (N := 29) hx hb hts in_X7 hown hK hP 0 rfl rfl 0 (Nat.le_of_ble_eq_true rfl) (hts _ q939) (fun _ h9 => h9) rfl dX7_ordered_66 ?_
        refine lv_sipush (v := (240 : Int32)) hx hb dX7_ordered_69 (by decide) ?_
        refine lv_iload hx hb dX7_ordered_72 (lv_at hl 4 rfl) ?_
        refine lv_iadd hx hb dX7_ordered_74 ?_
        refine lv_aload_n hx hb dX7_ordered_75 rfl (lv_at hl 5 rfl) ?_
        refine va_get (D := D) (ci := 7) (v := .ref (am 1)) (C := RX7) (T := TX7) (N := 29) hx hb hts in_X7 hown hK hP 0 rfl rfl 0 (Nat.le_of_ble_eq_true rfl) (hts _ q939) (fun _ h9 => h9) rfl dX7_ordered_76 ?_
        refine lv_bipush (v := (30 : Int32)) hx hb dX7_ordered_79 (by decide) ?_
        refine lv_iload hx hb dX7_ordered_81 (lv_at hl 1 rfl) ?_
        refine lv_iadd hx hb dX7_ordered_83 ?_
        obtain ⟨hin, h⟩ := h
        refine va_iald hx hb hK hP 1 1 rfl rfl hin dX7_ordered_84 ?_
        refine lv_topi (fun v_8 ev_8 => ?_)
        have h := h v_8 ev_8
        obtain ⟨hin, h⟩ := h
        refine va_iast hx hb hK hP hD hS 1 1 rfl rfl hin dX7_ordered_85 (fun H locs hP hD hS => ?_)
        have hP : va_P D vwCl [zM am f, zA (kk 1) (am 1) 252 (upd (upd st ((230 : Int32) + x5).toNatClampNeg v_7) ((240 : Int32) + x5).toNatClampNeg v_8)] H := hP
        have hD : va_D A [zM am f, zA (kk 1) (am 1) 252 (upd (upd st ((230 : Int32) + x5).toNatClampNeg v_7) ((240 : Int32) + x5).toNatClampNeg v_8)] := hD
        refine lv_iload hx hb dX7_ordered_86 (lv_at hl 3 rfl) ?_
        refine lv_iload_n hx hb dX7_ordered_88 rfl (lv_at hl 2 rfl) ?_
        obtain ⟨hne, h⟩ := h
        refine lv_idiv hx hb dX7_ordered_89 hne ?_
        refine lv_istore (lv' := [(4, .int (x4 / x2)), (3, .int x3_6), (6, .int (x4 - x4 / x2 * x2)), (2, .int x2), (5, .int x5), (0, .ref (am 0))]) hx hb dX7_ordered_90 hl (by decide) rfl (fun ls hl => ?_)
        refine lv_iinc (v := (x5 + (-1))) (lv' := [(5, .int (x5 + (-1))), (4, .int (x4 / x2)), (3, .int x3_6), (6, .int (x4 - x4 / x2 * x2)), (2, .int x2), (0, .ref (am 0))]) hx hb dX7_ordered_92 hl (k := 4) rfl rfl (by decide) rfl (fun ls hl => ?_)
        refine lv_goto (tgt := 26) hx hb dX7_ordered_95 (by decide) ?_
        exact ih_26 (upd (upd st ((230 : Int32) + x5).toNatClampNeg v_7) ((240 : Int32) + x5).toNatClampNeg v_8) x2 x3_6 (x4 / x2) (x5 + (-1)) h _ _ hP hD hS _ (lv_sub hl [4, 2, 1, 0, 5] rfl)
  refine lv_istore (lv' := [(5, .int (x2_1 - (1 : Int32))), (4, .int p1), (3, .int (0 : Int32)), (2, .int x2_1), (0, .ref (am 0)), (1, .int p1)]) hx hb dX7_ordered_24 hl (by decide) rfl (fun ls hl => ?_)
  obtain ⟨n_26, h⟩ := h
  exact cut_26 n_26 st_3 x2_1 (0 : Int32) p1 (x2_1 - (1 : Int32)) h _ _ hP hD hS _ (lv_sub hl [3, 2, 1, 0, 4] rfl)
def wbX7_order_147 (p1 : Int32) (Q : Int32 → (Nat → Int32) → (Nat → Int32) → (Nat → Int32) → Prop) (k53 : (Nat → Int32) → (Nat → Int32) → (Nat → Int32) → Int32 → Int32 → Int32 → Prop) (k79 : (Nat → Int32) → (Nat → Int32) → (Nat → Int32) → Int32 → Int32 → Int32 → Int32 → Int32 → Prop) (k147 : (Nat → Int32) → (Nat → Int32) → (Nat → Int32) → Int32 → Int32 → Int32 → Int32 → Prop) (f : Nat → Int32) (st : Nat → Int32) (br : Nat → Int32) (x2 : Int32) (x4 : Int32) (x5 : Int32) (x6 : Int32) : Prop :=
  ((x6 < 0 → ((p1 = 0 → Q x4 f st br) ∧ (¬ p1 = 0 → ((x2 ≤ (p1 - (10 : Int32)) → Q (-4 : Int32) f st br) ∧ (¬ x2 ≤ (p1 - (10 : Int32)) → (vp_in (p1 - (10 : Int32)) 5 ∧ Q (br (p1 - (10 : Int32)).toNatClampNeg) f st br)))))) ∧ (¬ x6 < 0 → ((¬ x2 = 0) ∧ (vp_in x6 5 ∧ ((¬ x2 = 0) ∧ k147 f st (upd br x6.toNatClampNeg (x5 - x5 / x2 * x2)) x2 x4 (x5 / x2) (x6 + (-1)))))))
def wpX7_order_147 (p1 : Int32) (Q : Int32 → (Nat → Int32) → (Nat → Int32) → (Nat → Int32) → Prop) (k53 : (Nat → Int32) → (Nat → Int32) → (Nat → Int32) → Int32 → Int32 → Int32 → Prop) (k79 : (Nat → Int32) → (Nat → Int32) → (Nat → Int32) → Int32 → Int32 → Int32 → Int32 → Int32 → Prop) (n : Nat) : (Nat → Int32) → (Nat → Int32) → (Nat → Int32) → Int32 → Int32 → Int32 → Int32 → Prop :=
  Nat.rec (motive := fun _ => (Nat → Int32) → (Nat → Int32) → (Nat → Int32) → Int32 → Int32 → Int32 → Int32 → Prop) (fun _ _ _ _ _ _ _ => False) (fun _ k => wbX7_order_147 p1 Q k53 k79 k) n
def wpX7_order_136 (p1 : Int32) (Q : Int32 → (Nat → Int32) → (Nat → Int32) → (Nat → Int32) → Prop) (k53 : (Nat → Int32) → (Nat → Int32) → (Nat → Int32) → Int32 → Int32 → Int32 → Prop) (k79 : (Nat → Int32) → (Nat → Int32) → (Nat → Int32) → Int32 → Int32 → Int32 → Int32 → Int32 → Prop) (f : Nat → Int32) (st : Nat → Int32) (br : Nat → Int32) (x2 : Int32) (x3 : Int32) (x4 : Int32) (x5 : Int32) (x6 : Int32) : Prop :=
  k79 f st br x2 x3 x4 x5 (x6 + 1)
def wpX7_order_134 (p1 : Int32) (Q : Int32 → (Nat → Int32) → (Nat → Int32) → (Nat → Int32) → Prop) (k53 : (Nat → Int32) → (Nat → Int32) → (Nat → Int32) → Int32 → Int32 → Int32 → Prop) (k79 : (Nat → Int32) → (Nat → Int32) → (Nat → Int32) → Int32 → Int32 → Int32 → Int32 → Int32 → Prop) (f : Nat → Int32) (st : Nat → Int32) (br : Nat → Int32) (x2 : Int32) (x3 : Int32) (x5 : Int32) (x6 : Int32) (s0 : Int32) : Prop :=
  wpX7_order_136 p1 Q k53 k79 f st br x2 x3 s0 x5 x6
def wpX7_order_118 (p1 : Int32) (Q : Int32 → (Nat → Int32) → (Nat → Int32) → (Nat → Int32) → Prop) (k53 : (Nat → Int32) → (Nat → Int32) → (Nat → Int32) → Int32 → Int32 → Int32 → Prop) (k79 : (Nat → Int32) → (Nat → Int32) → (Nat → Int32) → Int32 → Int32 → Int32 → Int32 → Int32 → Prop) (f : Nat → Int32) (st : Nat → Int32) (br : Nat → Int32) (x2 : Int32) (x3 : Int32) (x4 : Int32) (x6 : Int32) (x7 : Int32) (s0 : Int32) : Prop :=
  ((x4 ≤ x7 → wpX7_order_134 p1 Q k53 k79 f st br x2 x3 s0 x6 x4) ∧ (¬ x4 ≤ x7 → wpX7_order_134 p1 Q k53 k79 f st br x2 x3 s0 x6 x7))
def wbX7_order_79 (p1 : Int32) (Q : Int32 → (Nat → Int32) → (Nat → Int32) → (Nat → Int32) → Prop) (k53 : (Nat → Int32) → (Nat → Int32) → (Nat → Int32) → Int32 → Int32 → Int32 → Prop) (k79 : (Nat → Int32) → (Nat → Int32) → (Nat → Int32) → Int32 → Int32 → Int32 → Int32 → Int32 → Prop) (f : Nat → Int32) (st : Nat → Int32) (br : Nat → Int32) (x2 : Int32) (x3 : Int32) (x4 : Int32) (x5 : Int32) (x6 : Int32) : Prop :=
  ((x3 ≤ x6 → (∃ n : Nat, wpX7_order_147 p1 Q k53 k79 n f st br x2 x4 x5 (x2 - (1 : Int32)))) ∧ (¬ x3 ≤ x6 → (wpX7_ordered st x6 (fun r_8 st_9 => ((r_8 = 0 → wpX7_order_136 p1 Q k53 k79 f st_9 br x2 x3 x4 x5 x6) ∧ (¬ r_8 = 0 → (wpX7_weeksGo f st_9 (210 : Int32) x2 (fun r_11 f_12 st_13 => ((x4 ≤ r_11 → wpX7_order_118 p1 Q k53 k79 f_12 st_13 br x2 x3 x4 x6 r_11 x5) ∧ (¬ x4 ≤ r_11 → wpX7_order_118 p1 Q k53 k79 f_12 st_13 br x2 x3 x4 x6 r_11 x6))))))))))
def wpX7_order_79 (p1 : Int32) (Q : Int32 → (Nat → Int32) → (Nat → Int32) → (Nat → Int32) → Prop) (k53 : (Nat → Int32) → (Nat → Int32) → (Nat → Int32) → Int32 → Int32 → Int32 → Prop) (n : Nat) : (Nat → Int32) → (Nat → Int32) → (Nat → Int32) → Int32 → Int32 → Int32 → Int32 → Int32 → Prop :=
  Nat.rec (motive := fun _ => (Nat → Int32) → (Nat → Int32) → (Nat → Int32) → Int32 → Int32 → Int32 → Int32 → Int32 → Prop) (fun _ _ _ _ _ _ _ _ => False) (fun _ k => wbX7_order_79 p1 Q k53 k) n
def wbX7_order_53 (p1 : Int32) (Q : Int32 → (Nat → Int32) → (Nat → Int32) → (Nat → Int32) → Prop) (k53 : (Nat → Int32) → (Nat → Int32) → (Nat → Int32) → Int32 → Int32 → Int32 → Prop) (f : Nat → Int32) (st : Nat → Int32) (br : Nat → Int32) (x2 : Int32) (x3 : Int32) (x4 : Int32) : Prop :=
  ((x2 ≤ x4 → (∃ n : Nat, wpX7_order_79 p1 Q k53 n f st br x2 x3 (1000000 : Int32) (0 : Int32) (0 : Int32))) ∧ (¬ x2 ≤ x4 → k53 f st br x2 (x3 * x2) (x4 + 1)))
def wpX7_order_53 (p1 : Int32) (Q : Int32 → (Nat → Int32) → (Nat → Int32) → (Nat → Int32) → Prop) (n : Nat) : (Nat → Int32) → (Nat → Int32) → (Nat → Int32) → Int32 → Int32 → Int32 → Prop :=
  Nat.rec (motive := fun _ => (Nat → Int32) → (Nat → Int32) → (Nat → Int32) → Int32 → Int32 → Int32 → Prop) (fun _ _ _ _ _ _ => False) (fun _ k => wbX7_order_53 p1 Q  k) n
def wpX7_order_48 (p1 : Int32) (Q : Int32 → (Nat → Int32) → (Nat → Int32) → (Nat → Int32) → Prop) (f : Nat → Int32) (st : Nat → Int32) (br : Nat → Int32) (x2 : Int32) : Prop :=
  (∃ n : Nat, wpX7_order_53 p1 Q  n f st br x2 (1 : Int32) (0 : Int32))
def wpX7_order_20 (p1 : Int32) (Q : Int32 → (Nat → Int32) → (Nat → Int32) → (Nat → Int32) → Prop) (f : Nat → Int32) (st : Nat → Int32) (br : Nat → Int32) : Prop :=
  (∀ x2_1 : Int32, x2_1 = (st (40 : Int32).toNatClampNeg) → (((5 : Int32) < x2_1 → Q (-2 : Int32) f st br) ∧ (¬ (5 : Int32) < x2_1 → ((x2_1 ≤ 0 → wpX7_order_48 p1 Q  f st br x2_1) ∧ (¬ x2_1 ≤ 0 → (wpX7_placeOn st (0 : Int32) (fun r_17 => ((r_17 = 0 → wpX7_order_48 p1 Q  f st br x2_1) ∧ (¬ r_17 = 0 → Q (-2 : Int32) f st br)))))))))
def wpX7_order (f : Nat → Int32) (st : Nat → Int32) (br : Nat → Int32) (p1 : Int32) (Q : Int32 → (Nat → Int32) → (Nat → Int32) → (Nat → Int32) → Prop) : Prop :=
  ((p1 = 0 → wpX7_order_20 p1 Q  f st br) ∧ (¬ p1 = 0 → (wpX7_in (p1.toInt64) (10 : Int64) (14 : Int64) (fun r_20 => ((r_20 = 0 → Q (-1 : Int32) f st br) ∧ (¬ r_20 = 0 → wpX7_order_20 p1 Q  f st br))))))
set_option maxHeartbeats 4000000 in
theorem metX7_order (l : Launch) (D : va_G) (kk : Nat → ClassId) (am : Nat → Nat) (sz : Nat) (f : Nat → Int32) (st : Nat → Int32) (br : Nat → Int32) (p1 : Int32) (Q : Int32 → (Nat → Int32) → (Nat → Int32) → (Nat → Int32) → Prop) (h : wpX7_order f st br p1 Q) : Met l yX7_order (ws_ yX7_order cX7_order 8 (some .int)) { frames := 5, cells := 0, slots := 0, locals := 122 } (va_Pc ([.ref (am 0), .int p1] : List Value) (zPc D kk [zM am f, zA (kk 1) (am 1) 252 st, zA (kk 1) (am 6) 5 br] sz)) (va_Qi (fun (r : Int32) (u : (Nat → Int32) × (Nat → Int32) × (Nat → Int32)) => Q r u.1 u.2.1 u.2.2) (zB D (va_A [zM am f, zA (kk 1) (am 1) 252 st, zA (kk 1) (am 6) 5 br] sz) (fun u : (Nat → Int32) × (Nat → Int32) × (Nat → Int32) => [zM am u.1, zA (kk 1) (am 1) 252 u.2.1, zA (kk 1) (am 6) 5 u.2.2])) (va_A [zM am f, zA (kk 1) (am 1) 252 st, zA (kk 1) (am 6) 5 br] sz)) 0 0 (va_A [zM am f, zA (kk 1) (am 1) 252 st, zA (kk 1) (am 6) 5 br] sz) := by
  refine zMet (Qc := fun A => va_Qi (fun (r : Int32) (u : (Nat → Int32) × (Nat → Int32) × (Nat → Int32)) => Q r u.1 u.2.1 u.2.2) (zB D A (fun u : (Nat → Int32) × (Nat → Int32) × (Nat → Int32) => [zM am u.1, zA (kk 1) (am 1) 252 u.2.1, zA (kk 1) (am 6) 5 u.2.2])) A) (by decide) (Nat.le_of_ble_eq_true rfl) ?_
  intro p e s m below meth c A X hP hD hS ls hl
  obtain ⟨hx, hb, hr, hml, hown, hts, hlk, hnm, hK, hN, hA⟩ := X
  have hown : s.vm.findClass "LoseLeagueModel" = some m.cls := hown
  have hl : lv_has ls 8 [(0, .ref (am 0)), (1, .int p1)] := hl
  unfold wpX7_order at h
  refine lv_iload_n hx hb dX7_order_0 rfl (lv_at hl 1 rfl) ?_
  have cut_20 : ∀ (f : Nat → Int32) (st : Nat → Int32) (br : Nat → Int32), wpX7_order_20 p1 Q  f st br → ∀ (H : Heap) (locs : List Loc), va_P D vwCl [zM am f, zA (kk 1) (am 1) 252 st, zA (kk 1) (am 6) 5 br] H → va_D A [zM am f, zA (kk 1) (am 1) 252 st, zA (kk 1) (am 6) 5 br] → va_S A s.heap H locs → ∀ ls : Array Slot, lv_has ls 8 [(0, .ref (am 0)), (1, .int p1)] → W p l e { frames := 5, cells := 0, slots := 0, locals := 122 } s m ([.ref (am 0), .int p1] : List Value).toArray below meth c H locs 0 0 (MQ below (va_Qi (fun (r : Int32) (u : (Nat → Int32) × (Nat → Int32) × (Nat → Int32)) => Q r u.1 u.2.1 u.2.2) (zB D A (fun u : (Nat → Int32) × (Nat → Int32) × (Nat → Int32) => [zM am u.1, zA (kk 1) (am 1) 252 u.2.1, zA (kk 1) (am 6) 5 u.2.2])) A) ([.ref (am 0), .int p1] : List Value).toArray s 0 0 A) (F0 m 20 ls []) := by
    intro f st br h H locs hP hD hS ls hl
    unfold wpX7_order_20 at h
    refine lv_aload_n hx hb dX7_order_20 rfl (lv_at hl 0 rfl) ?_
    refine va_get (D := D) (ci := 7) (v := .ref (am 1)) (C := RX7) (T := TX7) (N := 29) hx hb hts in_X7 hown hK hP 0 rfl rfl 0 (Nat.le_of_ble_eq_true rfl) (hts _ q939) (fun _ h9 => h9) rfl dX7_order_21 ?_
    refine lv_bipush (v := (40 : Int32)) hx hb dX7_order_24 (by decide) ?_
    refine va_iald hx hb hK hP 1 1 rfl rfl (by unfold vp_in; decide) dX7_order_26 ?_
    refine lv_topi (fun x2_1 ex2_1 => ?_)
    have h := h x2_1 ex2_1
    refine lv_istore_n (lv' := [(2, .int x2_1), (0, .ref (am 0)), (1, .int p1)]) hx hb dX7_order_27 rfl hl (by decide) rfl (fun ls hl => ?_)
    refine lv_iload_n hx hb dX7_order_28 rfl (lv_at hl 0 rfl) ?_
    refine lv_iconst (v := (5 : Int32)) hx hb dX7_order_29 (by decide) ?_
    refine lv_icmp_gt (tgt := 45) hx hb dX7_order_30 (by decide) (fun c_2 => ?_) (fun c_2 => ?_)
    · have h := h.1 c_2
      refine lv_bipush (v := (-2 : Int32)) hx hb dX7_order_45 (by decide) ?_
      exact zr_i hx hb hr hlk rfl hP hD hS (f, st, br) [0, 1, 2] rfl (by decide) dX7_order_47 h
    · have h := h.2 c_2
      refine lv_iload_n hx hb dX7_order_33 rfl (lv_at hl 0 rfl) ?_
      have cut_48 : ∀ (f : Nat → Int32) (st : Nat → Int32) (br : Nat → Int32) (x2 : Int32), wpX7_order_48 p1 Q  f st br x2 → ∀ (H : Heap) (locs : List Loc), va_P D vwCl [zM am f, zA (kk 1) (am 1) 252 st, zA (kk 1) (am 6) 5 br] H → va_D A [zM am f, zA (kk 1) (am 1) 252 st, zA (kk 1) (am 6) 5 br] → va_S A s.heap H locs → ∀ ls : Array Slot, lv_has ls 8 [(2, .int x2), (0, .ref (am 0)), (1, .int p1)] → W p l e { frames := 5, cells := 0, slots := 0, locals := 122 } s m ([.ref (am 0), .int p1] : List Value).toArray below meth c H locs 0 0 (MQ below (va_Qi (fun (r : Int32) (u : (Nat → Int32) × (Nat → Int32) × (Nat → Int32)) => Q r u.1 u.2.1 u.2.2) (zB D A (fun u : (Nat → Int32) × (Nat → Int32) × (Nat → Int32) => [zM am u.1, zA (kk 1) (am 1) 252 u.2.1, zA (kk 1) (am 6) 5 u.2.2])) A) ([.ref (am 0), .int p1] : List Value).toArray s 0 0 A) (F0 m 48 ls []) := by
        intro f st br x2 h H locs hP hD hS ls hl
        unfold wpX7_order_48 at h
        refine lv_iconst (v := (1 : Int32)) hx hb dX7_order_48 (by decide) ?_
        refine lv_istore_n (lv' := [(3, .int (1 : Int32)), (2, .int x2), (0, .ref (am 0)), (1, .int p1)]) hx hb dX7_order_49 rfl hl (by decide) rfl (fun ls hl => ?_)
        refine lv_iconst (v := (0 : Int32)) hx hb dX7_order_50 (by decide) ?_
        have cut_53 : ∀ (nl53 : Nat) (f : Nat → Int32) (st : Nat → Int32) (br : Nat → Int32) (x2 : Int32) (x3 : Int32) (x4 : Int32), wpX7_order_53 p1 Q  nl53 f st br x2 x3 x4 → ∀ (H : Heap) (locs : List Loc), va_P D vwCl [zM am f, zA (kk 1) (am 1) 252 st, zA (kk 1) (am 6) 5 br] H → va_D A [zM am f, zA (kk 1) (am 1) 252 st, zA (kk 1) (am 6) 5 br] → va_S A s.heap H locs → ∀ ls : Array Slot, lv_has ls 8 [(2, .int x2), (3, .int x3), (4, .int x4), (0, .ref (am 0)), (1, .int p1)] → W p l e { frames := 5, cells := 0, slots := 0, locals := 122 } s m ([.ref (am 0), .int p1] : List Value).toArray below meth c H locs 0 0 (MQ below (va_Qi (fun (r : Int32) (u : (Nat → Int32) × (Nat → Int32) × (Nat → Int32)) => Q r u.1 u.2.1 u.2.2) (zB D A (fun u : (Nat → Int32) × (Nat → Int32) × (Nat → Int32) => [zM am u.1, zA (kk 1) (am 1) 252 u.2.1, zA (kk 1) (am 6) 5 u.2.2])) A) ([.ref (am 0), .int p1] : List Value).toArray s 0 0 A) (F0 m 53 ls []) := by
          intro nl53
          induction nl53 with
          | zero => intro f st br x2 x3 x4 h; exact absurd h id
          | succ nl53 ih_53 =>
            intro f st br x2 x3 x4 h H locs hP hD hS ls hl
            have h : wbX7_order_53 p1 Q  (wpX7_order_53 p1 Q  nl53) f st br x2 x3 x4 := h
            unfold wbX7_order_53 at h
            refine lv_iload hx hb dX7_order_53 (lv_at hl 2 rfl) ?_
            refine lv_iload_n hx hb dX7_order_55 rfl (lv_at hl 0 rfl) ?_
            refine lv_icmp_ge (tgt := 69) hx hb dX7_order_56 (by decide) (fun c_3 => ?_) (fun c_3 => ?_)
            · have h := h.1 c_3
              refine lv_ldc (v := (1000000 : Int32)) hx hb hown (hts _ q1216) dX7_order_69 ?_
              refine lv_istore (lv' := [(4, .int (1000000 : Int32)), (2, .int x2), (3, .int x3), (0, .ref (am 0)), (1, .int p1)]) hx hb dX7_order_71 hl (by decide) rfl (fun ls hl => ?_)
              refine lv_iconst (v := (0 : Int32)) hx hb dX7_order_73 (by decide) ?_
              refine lv_istore (lv' := [(5, .int (0 : Int32)), (4, .int (1000000 : Int32)), (2, .int x2), (3, .int x3), (0, .ref (am 0)), (1, .int p1)]) hx hb dX7_order_74 hl (by decide) rfl (fun ls hl => ?_)
              refine lv_iconst (v := (0 : Int32)) hx hb dX7_order_76 (by decide) ?_
              have cut_79 : ∀ (nl79 : Nat) (f : Nat → Int32) (st : Nat → Int32) (br : Nat → Int32) (x2 : Int32) (x3 : Int32) (x4 : Int32) (x5 : Int32) (x6 : Int32), wpX7_order_79 p1 Q (wpX7_order_53 p1 Q  nl53) nl79 f st br x2 x3 x4 x5 x6 → ∀ (H : Heap) (locs : List Loc), va_P D vwCl [zM am f, zA (kk 1) (am 1) 252 st, zA (kk 1) (am 6) 5 br] H → va_D A [zM am f, zA (kk 1) (am 1) 252 st, zA (kk 1) (am 6) 5 br] → va_S A s.heap H locs → ∀ ls : Array Slot, lv_has ls 8 [(2, .int x2), (3, .int x3), (4, .int x4), (5, .int x5), (6, .int x6), (0, .ref (am 0)), (1, .int p1)] → W p l e { frames := 5, cells := 0, slots := 0, locals := 122 } s m ([.ref (am 0), .int p1] : List Value).toArray below meth c H locs 0 0 (MQ below (va_Qi (fun (r : Int32) (u : (Nat → Int32) × (Nat → Int32) × (Nat → Int32)) => Q r u.1 u.2.1 u.2.2) (zB D A (fun u : (Nat → Int32) × (Nat → Int32) × (Nat → Int32) => [zM am u.1, zA (kk 1) (am 1) 252 u.2.1, zA (kk 1) (am 6) 5 u.2.2])) A) ([.ref (am 0), .int p1] : List Value).toArray s 0 0 A) (F0 m 79 ls []) := by
                intro nl79
                induction nl79 with
                | zero => intro f st br x2 x3 x4 x5 x6 h; exact absurd h id
                | succ nl79 ih_79 =>
                  intro f st br x2 x3 x4 x5 x6 h H locs hP hD hS ls hl
                  have h : wbX7_order_79 p1 Q (wpX7_order_53 p1 Q  nl53) (wpX7_order_79 p1 Q (wpX7_order_53 p1 Q  nl53) nl79) f st br x2 x3 x4 x5 x6 := h
                  unfold wbX7_order_79 at h
                  refine lv_iload hx hb dX7_order_79 (lv_at hl 4 rfl) ?_
                  refine lv_iload_n hx hb dX7_order_81 rfl (lv_at hl 1 rfl) ?_
                  refine lv_icmp_ge (tgt := 142) hx hb dX7_order_82 (by decide) (fun c_4 => ?_) (fun c_4 => ?_)
                  · have h := h.1 c_4
                    refine lv_iload_n hx hb dX7_order_142 rfl (lv_at hl 0 rfl) ?_
                    refine lv_iconst (v := (1 : Int32)) hx hb dX7_order_143 (by decide) ?_
                    refine lv_isub hx hb dX7_order_144 ?_
                    have cut_147 : ∀ (nl147 : Nat) (f : Nat → Int32) (st : Nat → Int32) (br : Nat → Int32) (x2 : Int32) (x4 : Int32) (x5 : Int32) (x6 : Int32), wpX7_order_147 p1 Q (wpX7_order_53 p1 Q  nl53) (wpX7_order_79 p1 Q (wpX7_order_53 p1 Q  nl53) nl79) nl147 f st br x2 x4 x5 x6 → ∀ (H : Heap) (locs : List Loc), va_P D vwCl [zM am f, zA (kk 1) (am 1) 252 st, zA (kk 1) (am 6) 5 br] H → va_D A [zM am f, zA (kk 1) (am 1) 252 st, zA (kk 1) (am 6) 5 br] → va_S A s.heap H locs → ∀ ls : Array Slot, lv_has ls 8 [(2, .int x2), (4, .int x4), (5, .int x5), (6, .int x6), (0, .ref (am 0)), (1, .int p1)] → W p l e { frames := 5, cells := 0, slots := 0, locals := 122 } s m ([.ref (am 0), .int p1] : List Value).toArray below meth c H locs 0 0 (MQ below (va_Qi (fun (r : Int32) (u : (Nat → Int32) × (Nat → Int32) × (Nat → Int32)) => Q r u.1 u.2.1 u.2.2) (zB D A (fun u : (Nat → Int32) × (Nat → Int32) × (Nat → Int32) => [zM am u.1, zA (kk 1) (am 1) 252 u.2.1, zA (kk 1) (am 6) 5 u.2.2])) A) ([.ref (am 0), .int p1] : List Value).toArray s 0 0 A) (F0 m 147 ls []) := by
                      intro nl147
                      induction nl147 with
                      | zero => intro f st br x2 x4 x5 x6 h; exact absurd h id
                      | succ nl147 ih_147 =>
                        intro f st br x2 x4 x5 x6 h H locs hP hD hS ls hl
                        have h : wbX7_order_147 p1 Q (wpX7_order_53 p1 Q  nl53) (wpX7_order_79 p1 Q (wpX7_order_53 p1 Q  nl53) nl79) (wpX7_order_147 p1 Q (wpX7_order_53 p1 Q  nl53) (wpX7_order_79 p1 Q (wpX7_order_53 p1 Q  nl53) nl79) nl147) f st br x2 x4 x5 x6 := h
                        unfold wbX7_order_147 at h
                        refine lv_iload hx hb dX7_order_147 (lv_at hl 3 rfl) ?_
                        refine lv_if_lt (tgt := 175) hx hb dX7_order_149 (by decide) (fun c_5 => ?_) (fun c_5 => ?_)
                        · have h := h.1 c_5
                          refine lv_iload_n hx hb dX7_order_175 rfl (lv_at hl 5 rfl) ?_
                          refine lv_if_ne (tgt := 184) hx hb dX7_order_176 (by decide) (fun c_6 => ?_) (fun c_6 => ?_)
                          · have h := h.2 c_6
                            refine lv_iload_n hx hb dX7_order_184 rfl (lv_at hl 5 rfl) ?_
                            refine lv_bipush (v := (10 : Int32)) hx hb dX7_order_185 (by decide) ?_
                            refine lv_isub hx hb dX7_order_187 ?_
                            refine lv_iload_n hx hb dX7_order_188 rfl (lv_at hl 0 rfl) ?_
                            refine lv_icmp_ge (tgt := 204) hx hb dX7_order_189 (by decide) (fun c_7 => ?_) (fun c_7 => ?_)
                            · have h := h.1 c_7
                              refine lv_bipush (v := (-4 : Int32)) hx hb dX7_order_204 (by decide) ?_
                              exact zr_i hx hb hr hlk rfl hP hD hS (f, st, br) [0, 1, 2] rfl (by decide) dX7_order_206 h
                            · have h := h.2 c_7
                              refine lv_aload_n hx hb dX7_order_192 rfl (lv_at hl 4 rfl) ?_
                              refine va_get (D := D) (ci := 7) (v := .ref (am 6)) (C := RX7) (T := TX7) (N := 29) hx hb hts in_X7 hown hK hP 0 rfl rfl 20 (Nat.le_of_ble_eq_true rfl) (hts _ q959) (fun _ h9 => h9) rfl dX7_order_193 ?_
                              refine lv_iload_n hx hb dX7_order_196 rfl (lv_at hl 5 rfl) ?_
                              refine lv_bipush (v := (10 : Int32)) hx hb dX7_order_197 (by decide) ?_
                              refine lv_isub hx hb dX7_order_199 ?_
                              obtain ⟨hin, h⟩ := h
                              refine va_iald hx hb hK hP 2 1 rfl rfl hin dX7_order_200 ?_
                              refine lv_goto (tgt := 206) hx hb dX7_order_201 (by decide) ?_
                              exact zr_i hx hb hr hlk rfl hP hD hS (f, st, br) [0, 1, 2] rfl (by decide) dX7_order_206 h
                          · have h := h.1 c_6
                            refine lv_iload hx hb dX7_order_179 (lv_at hl 1 rfl) ?_
                            refine lv_goto (tgt := 206) hx hb dX7_order_181 (by decide) ?_
                            exact zr_i hx hb hr hlk rfl hP hD hS (f, st, br) [0, 1, 2] rfl (by decide) dX7_order_206 h
                        · have h := h.2 c_5
                          refine lv_aload_n hx hb dX7_order_152 rfl (lv_at hl 4 rfl) ?_
                          refine va_get (D := D) (ci := 7) (v := .ref (am 6)) (C := RX7) (T := TX7) (N := 29) hx hb hts in_X7 hown hK hP 0 rfl rfl 20 (Nat.le_of_ble_eq_true rfl) (hts _ q959) (fun _ h9 => h9) rfl dX7_order_153 ?_
                          refine lv_iload hx hb dX7_order_156 (lv_at hl 3 rfl) ?_
                          refine lv_iload hx hb dX7_order_158 (lv_at hl 2 rfl) ?_
                          refine lv_iload_n hx hb dX7_order_160 rfl (lv_at hl 0 rfl) ?_
                          obtain ⟨hne, h⟩ := h
                          refine lv_irem hx hb dX7_order_161 hne ?_
                          obtain ⟨hin, h⟩ := h
                          refine va_iast hx hb hK hP hD hS 2 1 rfl rfl hin dX7_order_162 (fun H locs hP hD hS => ?_)
                          have hP : va_P D vwCl [zM am f, zA (kk 1) (am 1) 252 st, zA (kk 1) (am 6) 5 (upd br x6.toNatClampNeg (x5 - x5 / x2 * x2))] H := hP
                          have hD : va_D A [zM am f, zA (kk 1) (am 1) 252 st, zA (kk 1) (am 6) 5 (upd br x6.toNatClampNeg (x5 - x5 / x2 * x2))] := hD
                          refine lv_iload hx hb dX7_order_163 (lv_at hl 2 rfl) ?_
                          refine lv_iload_n hx hb dX7_order_165 rfl (lv_at hl 0 rfl) ?_
                          obtain ⟨hne, h⟩ := h
                          refine lv_idiv hx hb dX7_order_166 hne ?_
                          refine lv_istore (lv' := [(5, .int (x5 / x2)), (2, .int x2), (4, .int x4), (6, .int x6), (0, .ref (am 0)), (1, .int p1)]) hx hb dX7_order_167 hl (by decide) rfl (fun ls hl => ?_)
                          refine lv_iinc (v := (x6 + (-1))) (lv' := [(6, .int (x6 + (-1))), (5, .int (x5 / x2)), (2, .int x2), (4, .int x4), (0, .ref (am 0)), (1, .int p1)]) hx hb dX7_order_169 hl (k := 3) rfl rfl (by decide) rfl (fun ls hl => ?_)
                          refine lv_goto (tgt := 147) hx hb dX7_order_172 (by decide) ?_
                          exact ih_147 f st (upd br x6.toNatClampNeg (x5 - x5 / x2 * x2)) x2 x4 (x5 / x2) (x6 + (-1)) h _ _ hP hD hS _ (lv_sub hl [2, 3, 1, 0, 4, 5] rfl)
                    refine lv_istore (lv' := [(6, .int (x2 - (1 : Int32))), (2, .int x2), (3, .int x3), (4, .int x4), (5, .int x5), (0, .ref (am 0)), (1, .int p1)]) hx hb dX7_order_145 hl (by decide) rfl (fun ls hl => ?_)
                    obtain ⟨n_147, h⟩ := h
                    exact cut_147 n_147 f st br x2 x4 x5 (x2 - (1 : Int32)) h _ _ hP hD hS _ (lv_sub hl [1, 3, 4, 0, 5, 6] rfl)
                  · have h := h.2 c_4
                    refine lv_aload_n hx hb dX7_order_85 rfl (lv_at hl 5 rfl) ?_
                    refine lv_iload hx hb dX7_order_86 (lv_at hl 4 rfl) ?_
                    have hrc := va_recv hK hP (ci := 7) (q0 := 0) rfl rfl
                    refine zc_i (wc := [zM am f, zA (kk 1) (am 1) 252 st]) (wr := [zA (kk 1) (am 6) 5 br]) (w1 := (fun u : (Nat → Int32) => [zM am f, zA (kk 1) (am 1) 252 u])) (rest := []) [0, 1] [2] rfl rfl (by decide) (by decide) (by decide) hA hP hD hS (fun hP hD => va_runV (As := [.int x6]) (rest := []) ⟨hx, hb, hml, hown, hts⟩ (metX7_ordered l D kk am _ f st x6 _ h) (cwV 1 hts (lw_V q1217 q1219 qs59 q71 q1220) rfl rfl rfl pdX7_ordered ⟨(Nat.le_of_ble_eq_true rfl), (Nat.le_of_ble_eq_true rfl)⟩) (zp_V hK hN hrc hP hD) rfl rfl hl.1 rfl (lv_room (Nat.le_of_ble_eq_true rfl)) dX7_order_88 ⟨(Nat.le_of_ble_eq_true rfl), (Nat.le_of_ble_eq_true rfl)⟩) (fun r_8 u H locs h hP hD hS => ?_)
                    obtain ⟨st_9, rfl⟩ : ∃ z, z = u := ⟨_, rfl⟩
                    try dsimp only at h
                    have hP : va_P D vwCl [zA (kk 1) (am 6) 5 br, zM am f, zA (kk 1) (am 1) 252 st_9] H := hP
                    have hD : va_D A [zA (kk 1) (am 6) 5 br, zM am f, zA (kk 1) (am 1) 252 st_9] := hD
                    have cut_136 : ∀ (f : Nat → Int32) (st : Nat → Int32) (br : Nat → Int32) (x2 : Int32) (x3 : Int32) (x4 : Int32) (x5 : Int32) (x6 : Int32), wpX7_order_136 p1 Q (wpX7_order_53 p1 Q  nl53) (wpX7_order_79 p1 Q (wpX7_order_53 p1 Q  nl53) nl79) f st br x2 x3 x4 x5 x6 → ∀ (H : Heap) (locs : List Loc), va_P D vwCl [zM am f, zA (kk 1) (am 1) 252 st, zA (kk 1) (am 6) 5 br] H → va_D A [zM am f, zA (kk 1) (am 1) 252 st, zA (kk 1) (am 6) 5 br] → va_S A s.heap H locs → ∀ ls : Array Slot, lv_has ls 8 [(2, .int x2), (3, .int x3), (4, .int x4), (5, .int x5), (6, .int x6), (0, .ref (am 0)), (1, .int p1)] → W p l e { frames := 5, cells := 0, slots := 0, locals := 122 } s m ([.ref (am 0), .int p1] : List Value).toArray below meth c H locs 0 0 (MQ below (va_Qi (fun (r : Int32) (u : (Nat → Int32) × (Nat → Int32) × (Nat → Int32)) => Q r u.1 u.2.1 u.2.2) (zB D A (fun u : (Nat → Int32) × (Nat → Int32) × (Nat → Int32) => [zM am u.1, zA (kk 1) (am 1) 252 u.2.1, zA (kk 1) (am 6) 5 u.2.2])) A) ([.ref (am 0), .int p1] : List Value).toArray s 0 0 A) (F0 m 136 ls []) := by
                      intro f st br x2 x3 x4 x5 x6 h H locs hP hD hS ls hl
                      unfold wpX7_order_136 at h
                      refine lv_iinc (v := (x6 + 1)) (lv' := [(6, .int (x6 + 1)), (2, .int x2), (3, .int x3), (4, .int x4), (5, .int x5), (0, .ref (am 0)), (1, .int p1)]) hx hb dX7_order_136 hl (k := 4) rfl rfl (by decide) rfl (fun ls hl => ?_)
                      refine lv_goto (tgt := 79) hx hb dX7_order_139 (by decide) ?_
                      exact ih_79 f st br x2 x3 x4 x5 (x6 + 1) h _ _ hP hD hS _ (lv_sub hl [1, 2, 3, 4, 0, 5, 6] rfl)
                    refine lv_if_eq (tgt := 136) hx hb dX7_order_91 (by decide) (fun c_10 => ?_) (fun c_10 => ?_)
                    · have h := h.1 c_10
                      exact cut_136 f st_9 br x2 x3 x4 x5 x6 h _ _ (hP.sub [1, 2, 0] rfl) (hD.sub [1, 2, 0] (by decide) rfl) hS _ (lv_sub hl [0, 1, 2, 3, 4, 5, 6] rfl)
                    · have h := h.2 c_10
                      refine lv_aload_n hx hb dX7_order_94 rfl (lv_at hl 5 rfl) ?_
                      refine lv_sipush (v := (210 : Int32)) hx hb dX7_order_95 (by decide) ?_
                      refine lv_iload_n hx hb dX7_order_98 rfl (lv_at hl 0 rfl) ?_
                      have hrc := va_recv hK hP (ci := 7) (q0 := 1) rfl rfl
                      refine zc_i (wc := [zM am f, zA (kk 1) (am 1) 252 st_9]) (wr := [zA (kk 1) (am 6) 5 br]) (w1 := (fun u : (Nat → Int32) × (Nat → Int32) => [zM am u.1, zA (kk 1) (am 1) 252 u.2])) (rest := []) [1, 2] [0] rfl rfl (by decide) (by decide) (by decide) hA hP hD hS (fun hP hD => va_runV (As := [.int (210 : Int32), .int x2]) (rest := []) ⟨hx, hb, hml, hown, hts⟩ (metX7_weeksGo l D kk am _ f st_9 (210 : Int32) x2 _ h) (cwV 2 hts (lw_V q1185 q1187 qs56 q71 q1188) rfl rfl rfl pdX7_weeksGo ⟨(Nat.le_of_ble_eq_true rfl), (Nat.le_of_ble_eq_true rfl)⟩) (zp_V hK hN hrc hP hD) rfl rfl hl.1 rfl (lv_room (Nat.le_of_ble_eq_true rfl)) dX7_order_99 ⟨(Nat.le_of_ble_eq_true rfl), (Nat.le_of_ble_eq_true rfl)⟩) (fun r_11 u H locs h hP hD hS => ?_)
                      obtain ⟨f_12, st_13⟩ := u
                      try dsimp only at h
                      have hP : va_P D vwCl [zA (kk 1) (am 6) 5 br, zM am f_12, zA (kk 1) (am 1) 252 st_13] H := hP
                      have hD : va_D A [zA (kk 1) (am 6) 5 br, zM am f_12, zA (kk 1) (am 1) 252 st_13] := hD
                      refine lv_istore (lv' := [(7, .int r_11), (2, .int x2), (3, .int x3), (4, .int x4), (5, .int x5), (6, .int x6), (0, .ref (am 0)), (1, .int p1)]) hx hb dX7_order_102 hl (by decide) rfl (fun ls hl => ?_)
                      refine lv_iload hx hb dX7_order_104 (lv_at hl 0 rfl) ?_
                      refine lv_iload hx hb dX7_order_106 (lv_at hl 3 rfl) ?_
                      have cut_118 : ∀ (f : Nat → Int32) (st : Nat → Int32) (br : Nat → Int32) (x2 : Int32) (x3 : Int32) (x4 : Int32) (x6 : Int32) (x7 : Int32) (s0 : Int32), wpX7_order_118 p1 Q (wpX7_order_53 p1 Q  nl53) (wpX7_order_79 p1 Q (wpX7_order_53 p1 Q  nl53) nl79) f st br x2 x3 x4 x6 x7 s0 → ∀ (H : Heap) (locs : List Loc), va_P D vwCl [zM am f, zA (kk 1) (am 1) 252 st, zA (kk 1) (am 6) 5 br] H → va_D A [zM am f, zA (kk 1) (am 1) 252 st, zA (kk 1) (am 6) 5 br] → va_S A s.heap H locs → ∀ ls : Array Slot, lv_has ls 8 [(2, .int x2), (3, .int x3), (4, .int x4), (6, .int x6), (7, .int x7), (0, .ref (am 0)), (1, .int p1)] → W p l e { frames := 5, cells := 0, slots := 0, locals := 122 } s m ([.ref (am 0), .int p1] : List Value).toArray below meth c H locs 0 0 (MQ below (va_Qi (fun (r : Int32) (u : (Nat → Int32) × (Nat → Int32) × (Nat → Int32)) => Q r u.1 u.2.1 u.2.2) (zB D A (fun u : (Nat → Int32) × (Nat → Int32) × (Nat → Int32) => [zM am u.1, zA (kk 1) (am 1) 252 u.2.1, zA (kk 1) (am 6) 5 u.2.2])) A) ([.ref (am 0), .int p1] : List Value).toArray s 0 0 A) (F0 m 118 ls [.int s0]) := by
                        intro f st br x2 x3 x4 x6 x7 s0 h H locs hP hD hS ls hl
                        unfold wpX7_order_118 at h
                        refine lv_istore (lv' := [(5, .int s0), (2, .int x2), (3, .int x3), (4, .int x4), (6, .int x6), (7, .int x7), (0, .ref (am 0)), (1, .int p1)]) hx hb dX7_order_118 hl (by decide) rfl (fun ls hl => ?_)
                        refine lv_iload hx hb dX7_order_120 (lv_at hl 5 rfl) ?_
                        refine lv_iload hx hb dX7_order_122 (lv_at hl 3 rfl) ?_
                        have cut_134 : ∀ (f : Nat → Int32) (st : Nat → Int32) (br : Nat → Int32) (x2 : Int32) (x3 : Int32) (x5 : Int32) (x6 : Int32) (s0 : Int32), wpX7_order_134 p1 Q (wpX7_order_53 p1 Q  nl53) (wpX7_order_79 p1 Q (wpX7_order_53 p1 Q  nl53) nl79) f st br x2 x3 x5 x6 s0 → ∀ (H : Heap) (locs : List Loc), va_P D vwCl [zM am f, zA (kk 1) (am 1) 252 st, zA (kk 1) (am 6) 5 br] H → va_D A [zM am f, zA (kk 1) (am 1) 252 st, zA (kk 1) (am 6) 5 br] → va_S A s.heap H locs → ∀ ls : Array Slot, lv_has ls 8 [(2, .int x2), (3, .int x3), (5, .int x5), (6, .int x6), (0, .ref (am 0)), (1, .int p1)] → W p l e { frames := 5, cells := 0, slots := 0, locals := 122 } s m ([.ref (am 0), .int p1] : List Value).toArray below meth c H locs 0 0 (MQ below (va_Qi (fun (r : Int32) (u : (Nat → Int32) × (Nat → Int32) × (Nat → Int32)) => Q r u.1 u.2.1 u.2.2) (zB D A (fun u : (Nat → Int32) × (Nat → Int32) × (Nat → Int32) => [zM am u.1, zA (kk 1) (am 1) 252 u.2.1, zA (kk 1) (am 6) 5 u.2.2])) A) ([.ref (am 0), .int p1] : List Value).toArray s 0 0 A) (F0 m 134 ls [.int s0]) := by
                          intro f st br x2 x3 x5 x6 s0 h H locs hP hD hS ls hl
                          unfold wpX7_order_134 at h
                          refine lv_istore (lv' := [(4, .int s0), (2, .int x2), (3, .int x3), (5, .int x5), (6, .int x6), (0, .ref (am 0)), (1, .int p1)]) hx hb dX7_order_134 hl (by decide) rfl (fun ls hl => ?_)
                          exact cut_136 f st br x2 x3 s0 x5 x6 h _ _ hP hD hS _ (lv_sub hl [1, 2, 0, 3, 4, 5, 6] rfl)
                        refine lv_icmp_ge (tgt := 132) hx hb dX7_order_124 (by decide) (fun c_14 => ?_) (fun c_14 => ?_)
                        · have h := h.1 c_14
                          refine lv_iload hx hb dX7_order_132 (lv_at hl 3 rfl) ?_
                          exact cut_134 f st br x2 x3 s0 x6 x4 h _ _ hP hD hS _ (lv_sub hl [1, 2, 0, 4, 6, 7] rfl)
                        · have h := h.2 c_14
                          refine lv_iload hx hb dX7_order_127 (lv_at hl 5 rfl) ?_
                          refine lv_goto (tgt := 134) hx hb dX7_order_129 (by decide) ?_
                          exact cut_134 f st br x2 x3 s0 x6 x7 h _ _ hP hD hS _ (lv_sub hl [1, 2, 0, 4, 6, 7] rfl)
                      refine lv_icmp_ge (tgt := 116) hx hb dX7_order_108 (by decide) (fun c_15 => ?_) (fun c_15 => ?_)
                      · have h := h.1 c_15
                        refine lv_iload hx hb dX7_order_116 (lv_at hl 4 rfl) ?_
                        exact cut_118 f_12 st_13 br x2 x3 x4 x6 r_11 x5 h _ _ (hP.sub [1, 2, 0] rfl) (hD.sub [1, 2, 0] (by decide) rfl) hS _ (lv_sub hl [1, 2, 3, 5, 0, 6, 7] rfl)
                      · have h := h.2 c_15
                        refine lv_iload hx hb dX7_order_111 (lv_at hl 5 rfl) ?_
                        refine lv_goto (tgt := 118) hx hb dX7_order_113 (by decide) ?_
                        exact cut_118 f_12 st_13 br x2 x3 x4 x6 r_11 x6 h _ _ (hP.sub [1, 2, 0] rfl) (hD.sub [1, 2, 0] (by decide) rfl) hS _ (lv_sub hl [1, 2, 3, 5, 0, 6, 7] rfl)
              refine lv_istore (lv' := [(6, .int (0 : Int32)), (5, .int (0 : Int32)), (4, .int (1000000 : Int32)), (2, .int x2), (3, .int x3), (0, .ref (am 0)), (1, .int p1)]) hx hb dX7_order_77 hl (by decide) rfl (fun ls hl => ?_)
              obtain ⟨n_79, h⟩ := h
              exact cut_79 n_79 f st br x2 x3 (1000000 : Int32) (0 : Int32) (0 : Int32) h _ _ hP hD hS _ (lv_sub hl [3, 4, 2, 1, 0, 5, 6] rfl)
            · have h := h.2 c_3
              refine lv_iload_n hx hb dX7_order_59 rfl (lv_at hl 1 rfl) ?_
              refine lv_iload_n hx hb dX7_order_60 rfl (lv_at hl 0 rfl) ?_
              refine lv_imul hx hb dX7_order_61 ?_
              refine lv_istore_n (lv' := [(3, .int (x3 * x2)), (2, .int x2), (4, .int x4), (0, .ref (am 0)), (1, .int p1)]) hx hb dX7_order_62 rfl hl (by decide) rfl (fun ls hl => ?_)
              refine lv_iinc (v := (x4 + 1)) (lv' := [(4, .int (x4 + 1)), (3, .int (x3 * x2)), (2, .int x2), (0, .ref (am 0)), (1, .int p1)]) hx hb dX7_order_63 hl (k := 2) rfl rfl (by decide) rfl (fun ls hl => ?_)
              refine lv_goto (tgt := 53) hx hb dX7_order_66 (by decide) ?_
              exact ih_53 f st br x2 (x3 * x2) (x4 + 1) h _ _ hP hD hS _ (lv_sub hl [2, 1, 0, 3, 4] rfl)
        refine lv_istore (lv' := [(4, .int (0 : Int32)), (3, .int (1 : Int32)), (2, .int x2), (0, .ref (am 0)), (1, .int p1)]) hx hb dX7_order_51 hl (by decide) rfl (fun ls hl => ?_)
        obtain ⟨n_53, h⟩ := h
        exact cut_53 n_53 f st br x2 (1 : Int32) (0 : Int32) h _ _ hP hD hS _ (lv_sub hl [2, 1, 0, 3, 4] rfl)
      refine lv_if_le (tgt := 48) hx hb dX7_order_34 (by decide) (fun c_16 => ?_) (fun c_16 => ?_)
      · have h := h.1 c_16
        exact cut_48 f st br x2_1 h _ _ hP hD hS _ (lv_sub hl [0, 1, 2] rfl)
      · have h := h.2 c_16
        refine lv_aload_n hx hb dX7_order_37 rfl (lv_at hl 1 rfl) ?_
        refine lv_iconst (v := (0 : Int32)) hx hb dX7_order_38 (by decide) ?_
        have hrc := va_recv hK hP (ci := 7) (q0 := 0) rfl rfl
        refine zc_i (wc := [zM am f, zA (kk 1) (am 1) 252 st]) (wr := [zA (kk 1) (am 6) 5 br]) (w1 := (fun u : Unit => [zM am f, zA (kk 1) (am 1) 252 st])) (rest := []) [0, 1] [2] rfl rfl (by decide) (by decide) (by decide) hA hP hD hS (fun hP hD => va_runV (As := [.int (0 : Int32)]) (rest := []) ⟨hx, hb, hml, hown, hts⟩ (metX7_placeOn l D kk am _ f st (0 : Int32) _ h) (cwV 1 hts (lw_V q1089 q1091 qs42 q71 q1092) rfl rfl rfl pdX7_placeOn ⟨(Nat.le_of_ble_eq_true rfl), (Nat.le_of_ble_eq_true rfl)⟩) (zp_V hK hN hrc hP hD) rfl rfl hl.1 rfl (lv_room (Nat.le_of_ble_eq_true rfl)) dX7_order_39 ⟨(Nat.le_of_ble_eq_true rfl), (Nat.le_of_ble_eq_true rfl)⟩) (fun r_17 u H locs h hP hD hS => ?_)
        try dsimp only at h
        have hP : va_P D vwCl [zA (kk 1) (am 6) 5 br, zM am f, zA (kk 1) (am 1) 252 st] H := hP
        have hD : va_D A [zA (kk 1) (am 6) 5 br, zM am f, zA (kk 1) (am 1) 252 st] := hD
        refine lv_if_eq (tgt := 48) hx hb dX7_order_42 (by decide) (fun c_18 => ?_) (fun c_18 => ?_)
        · have h := h.1 c_18
          exact cut_48 f st br x2_1 h _ _ (hP.sub [1, 2, 0] rfl) (hD.sub [1, 2, 0] (by decide) rfl) hS _ (lv_sub hl [0, 1, 2] rfl)
        · have h := h.2 c_18
          refine lv_bipush (v := (-2 : Int32)) hx hb dX7_order_45 (by decide) ?_
          exact zr_i hx hb hr hlk rfl hP hD hS (f, st, br) [1, 2, 0] rfl (by decide) dX7_order_47 h
  refine lv_if_eq (tgt := 20) hx hb dX7_order_1 (by decide) (fun c_19 => ?_) (fun c_19 => ?_)
  · have h := h.1 c_19
    exact cut_20 f st br h _ _ hP hD hS _ (lv_sub hl [0, 1] rfl)
  · have h := h.2 c_19
    refine lv_iload_n hx hb dX7_order_4 rfl (lv_at hl 1 rfl) ?_
    refine lv_i2l hx hb dX7_order_5 rfl ?_
    refine lv_ldc2 (v := (10 : Int64)) hx hb hown (hts _ q1214) dX7_order_6 ?_
    refine lv_ldc2 (v := (14 : Int64)) hx hb hown (hts _ q1215) dX7_order_9 ?_
    refine zc_i (wc := []) (wr := [zM am f, zA (kk 1) (am 1) 252 st, zA (kk 1) (am 6) 5 br]) (w1 := (fun u : Unit => [])) (rest := []) [] [0, 1, 2] rfl rfl (by decide) (by decide) (by decide) hA hP hD hS (fun hP hD => va_runS (As := [.long (p1.toInt64), .long (10 : Int64), .long (14 : Int64)]) (rest := []) ⟨hx, hb, hml, hown, hts⟩ (metX7_in l D kk _ (p1.toInt64) (10 : Int64) (14 : Int64) _ h) (va_cwS 3 hts (lw_S q1033 q1034 q71 q1035) rfl rfl rfl pdX7_in.2 ⟨(Nat.le_of_ble_eq_true rfl), (Nat.le_of_ble_eq_true rfl)⟩) (zp_S hK hN hP hD) rfl rfl hl.1 rfl (lv_room (Nat.le_of_ble_eq_true rfl)) dX7_order_12 ⟨(Nat.le_of_ble_eq_true rfl), (Nat.le_of_ble_eq_true rfl)⟩) (fun r_20 u H locs h hP hD hS => ?_)
    try dsimp only at h
    have hP : va_P D vwCl [zM am f, zA (kk 1) (am 1) 252 st, zA (kk 1) (am 6) 5 br] H := hP
    have hD : va_D A [zM am f, zA (kk 1) (am 1) 252 st, zA (kk 1) (am 6) 5 br] := hD
    refine lv_if_ne (tgt := 20) hx hb dX7_order_15 (by decide) (fun c_21 => ?_) (fun c_21 => ?_)
    · have h := h.2 c_21
      exact cut_20 f st br h _ _ hP hD hS _ (lv_sub hl [0, 1] rfl)
    · have h := h.1 c_21
      refine lv_iconst (v := (-1 : Int32)) hx hb dX7_order_18 (by decide) ?_
      exact zr_i hx hb hr hlk rfl hP hD hS (f, st, br) [0, 1, 2] rfl (by decide) dX7_order_19 h
def wpX7_loan_156 (p1 : Int32) (p2 : Int32) (Q : Int32 → (Nat → Int32) → (Nat → Int32) → Prop) (k38 : (Nat → Int32) → (Nat → Int32) → Int32 → Int32 → Int32 → Prop) (f : Nat → Int32) (st : Nat → Int32) (x4 : Int32) : Prop :=
  Q x4 f st
def wpX7_loan_133 (p1 : Int32) (p2 : Int32) (Q : Int32 → (Nat → Int32) → (Nat → Int32) → Prop) (k38 : (Nat → Int32) → (Nat → Int32) → Int32 → Int32 → Int32 → Prop) (k50 : (Nat → Int32) → (Nat → Int32) → Int32 → Int32 → Int32 → Int32 → Prop) (f : Nat → Int32) (st : Nat → Int32) (x3 : Int32) (x4 : Int32) (x5 : Int32) (x6 : Int32) : Prop :=
  k50 f st x3 x4 x5 (x6 + 1)
def wpX7_loan_132 (p1 : Int32) (p2 : Int32) (Q : Int32 → (Nat → Int32) → (Nat → Int32) → Prop) (k38 : (Nat → Int32) → (Nat → Int32) → Int32 → Int32 → Int32 → Prop) (k50 : (Nat → Int32) → (Nat → Int32) → Int32 → Int32 → Int32 → Int32 → Prop) (f : Nat → Int32) (st : Nat → Int32) (x4 : Int32) (x5 : Int32) (x6 : Int32) (s0 : Int32) : Prop :=
  wpX7_loan_133 p1 p2 Q k38 k50 f st s0 x4 x5 x6
def wpX7_loan_118 (p1 : Int32) (p2 : Int32) (Q : Int32 → (Nat → Int32) → (Nat → Int32) → Prop) (k38 : (Nat → Int32) → (Nat → Int32) → Int32 → Int32 → Int32 → Prop) (k50 : (Nat → Int32) → (Nat → Int32) → Int32 → Int32 → Int32 → Int32 → Prop) (f : Nat → Int32) (st : Nat → Int32) (x3 : Int32) (x5 : Int32) (x6 : Int32) (x7 : Int32) (s0 : Int32) : Prop :=
  ((x3 ≤ x7 → wpX7_loan_132 p1 p2 Q k38 k50 f st s0 x5 x6 x3) ∧ (¬ x3 ≤ x7 → wpX7_loan_132 p1 p2 Q k38 k50 f st s0 x5 x6 x7))
def wbX7_loan_50 (p1 : Int32) (p2 : Int32) (Q : Int32 → (Nat → Int32) → (Nat → Int32) → Prop) (k38 : (Nat → Int32) → (Nat → Int32) → Int32 → Int32 → Int32 → Prop) (k50 : (Nat → Int32) → (Nat → Int32) → Int32 → Int32 → Int32 → Int32 → Prop) (f : Nat → Int32) (st : Nat → Int32) (x3 : Int32) (x4 : Int32) (x5 : Int32) (x6 : Int32) : Prop :=
  (((f 1) ≤ x6 → k38 f st x3 x4 (x5 + 1)) ∧ (¬ (f 1) ≤ x6 → (wpX7_copies st (0 : Int32) (210 : Int32) (fun st_13 => ((x5 = x6 → wpX7_loan_133 p1 p2 Q k38 k50 f st_13 x3 x4 x5 x6) ∧ (¬ x5 = x6 → (wpX7_lendsOn st_13 (210 : Int32) x5 x6 (1 : Int32) (fun r_15 st_16 => ((r_15 < 0 → wpX7_loan_133 p1 p2 Q k38 k50 f st_16 x3 x4 x5 x6) ∧ (¬ r_15 < 0 → (wpX7_weeksGo f st_16 (210 : Int32) p1 (fun r_18 f_19 st_20 => ((x3 ≤ r_18 → wpX7_loan_118 p1 p2 Q k38 k50 f_19 st_20 x3 x5 x6 r_18 x4) ∧ (¬ x3 ≤ r_18 → wpX7_loan_118 p1 p2 Q k38 k50 f_19 st_20 x3 x5 x6 r_18 (((10 : Int32) * x5) + x6)))))))))))))))
def wpX7_loan_50 (p1 : Int32) (p2 : Int32) (Q : Int32 → (Nat → Int32) → (Nat → Int32) → Prop) (k38 : (Nat → Int32) → (Nat → Int32) → Int32 → Int32 → Int32 → Prop) (n : Nat) : (Nat → Int32) → (Nat → Int32) → Int32 → Int32 → Int32 → Int32 → Prop :=
  Nat.rec (motive := fun _ => (Nat → Int32) → (Nat → Int32) → Int32 → Int32 → Int32 → Int32 → Prop) (fun _ _ _ _ _ _ => False) (fun _ k => wbX7_loan_50 p1 p2 Q k38 k) n
def wbX7_loan_38 (p1 : Int32) (p2 : Int32) (Q : Int32 → (Nat → Int32) → (Nat → Int32) → Prop) (k38 : (Nat → Int32) → (Nat → Int32) → Int32 → Int32 → Int32 → Prop) (f : Nat → Int32) (st : Nat → Int32) (x3 : Int32) (x4 : Int32) (x5 : Int32) : Prop :=
  (((f 1) ≤ x5 → ((x4 = (-4 : Int32) → wpX7_loan_156 p1 p2 Q k38 f st x4) ∧ (¬ x4 = (-4 : Int32) → ((p2 = 0 → wpX7_loan_156 p1 p2 Q k38 f st x4) ∧ (¬ p2 = 0 → Q x3 f st))))) ∧ (¬ (f 1) ≤ x5 → (∃ n : Nat, wpX7_loan_50 p1 p2 Q k38 n f st x3 x4 x5 (0 : Int32))))
def wpX7_loan_38 (p1 : Int32) (p2 : Int32) (Q : Int32 → (Nat → Int32) → (Nat → Int32) → Prop) (n : Nat) : (Nat → Int32) → (Nat → Int32) → Int32 → Int32 → Int32 → Prop :=
  Nat.rec (motive := fun _ => (Nat → Int32) → (Nat → Int32) → Int32 → Int32 → Int32 → Prop) (fun _ _ _ _ _ => False) (fun _ k => wbX7_loan_38 p1 p2 Q  k) n
def wpX7_loan (f : Nat → Int32) (st : Nat → Int32) (p1 : Int32) (p2 : Int32) (Q : Int32 → (Nat → Int32) → (Nat → Int32) → Prop) : Prop :=
  (wpX7_in (p1.toInt64) (0 : Int64) (60 : Int64) (fun r_1 => ((r_1 = 0 → Q (-1 : Int32) f st) ∧ (¬ r_1 = 0 → (wpX7_in (p2.toInt64) (0 : Int64) (1 : Int64) (fun r_3 => ((r_3 = 0 → Q (-1 : Int32) f st) ∧ (¬ r_3 = 0 → (wpX7_weeksGo f st (0 : Int32) p1 (fun r_5 f_6 st_7 => (∃ n : Nat, wpX7_loan_38 p1 p2 Q  n f_6 st_7 r_5 (-4 : Int32) (0 : Int32))))))))))))
set_option maxHeartbeats 4000000 in
theorem metX7_loan (l : Launch) (D : va_G) (kk : Nat → ClassId) (am : Nat → Nat) (sz : Nat) (f : Nat → Int32) (st : Nat → Int32) (p1 : Int32) (p2 : Int32) (Q : Int32 → (Nat → Int32) → (Nat → Int32) → Prop) (h : wpX7_loan f st p1 p2 Q) : Met l yX7_loan (ws_ yX7_loan cX7_loan 8 (some .int)) { frames := 5, cells := 0, slots := 0, locals := 122 } (va_Pc ([.ref (am 0), .int p1, .int p2] : List Value) (zPc D kk [zM am f, zA (kk 1) (am 1) 252 st] sz)) (va_Qi (fun (r : Int32) (u : (Nat → Int32) × (Nat → Int32)) => Q r u.1 u.2) (zB D (va_A [zM am f, zA (kk 1) (am 1) 252 st] sz) (fun u : (Nat → Int32) × (Nat → Int32) => [zM am u.1, zA (kk 1) (am 1) 252 u.2])) (va_A [zM am f, zA (kk 1) (am 1) 252 st] sz)) 0 0 (va_A [zM am f, zA (kk 1) (am 1) 252 st] sz) := by
  refine zMet (Qc := fun A => va_Qi (fun (r : Int32) (u : (Nat → Int32) × (Nat → Int32)) => Q r u.1 u.2) (zB D A (fun u : (Nat → Int32) × (Nat → Int32) => [zM am u.1, zA (kk 1) (am 1) 252 u.2])) A) (by decide) (Nat.le_of_ble_eq_true rfl) ?_
  intro p e s m below meth c A X hP hD hS ls hl
  obtain ⟨hx, hb, hr, hml, hown, hts, hlk, hnm, hK, hN, hA⟩ := X
  have hown : s.vm.findClass "LoseLeagueModel" = some m.cls := hown
  have hl : lv_has ls 8 [(0, .ref (am 0)), (1, .int p1), (2, .int p2)] := hl
  unfold wpX7_loan at h
  refine lv_iload_n hx hb dX7_loan_0 rfl (lv_at hl 1 rfl) ?_
  refine lv_i2l hx hb dX7_loan_1 rfl ?_
  refine lv_lconst (v := (0 : Int64)) hx hb dX7_loan_2 (by decide) ?_
  refine lv_ldc2 (v := (60 : Int64)) hx hb hown (hts _ q1184) dX7_loan_3 ?_
  refine zc_i (wc := []) (wr := [zM am f, zA (kk 1) (am 1) 252 st]) (w1 := (fun u : Unit => [])) (rest := []) [] [0, 1] rfl rfl (by decide) (by decide) (by decide) hA hP hD hS (fun hP hD => va_runS (As := [.long (p1.toInt64), .long (0 : Int64), .long (60 : Int64)]) (rest := []) ⟨hx, hb, hml, hown, hts⟩ (metX7_in l D kk _ (p1.toInt64) (0 : Int64) (60 : Int64) _ h) (va_cwS 3 hts (lw_S q1033 q1034 q71 q1035) rfl rfl rfl pdX7_in.2 ⟨(Nat.le_of_ble_eq_true rfl), (Nat.le_of_ble_eq_true rfl)⟩) (zp_S hK hN hP hD) rfl rfl hl.1 rfl (lv_room (Nat.le_of_ble_eq_true rfl)) dX7_loan_6 ⟨(Nat.le_of_ble_eq_true rfl), (Nat.le_of_ble_eq_true rfl)⟩) (fun r_1 u H locs h hP hD hS => ?_)
  try dsimp only at h
  have hP : va_P D vwCl [zM am f, zA (kk 1) (am 1) 252 st] H := hP
  have hD : va_D A [zM am f, zA (kk 1) (am 1) 252 st] := hD
  refine lv_if_eq (tgt := 22) hx hb dX7_loan_9 (by decide) (fun c_2 => ?_) (fun c_2 => ?_)
  · have h := h.1 c_2
    refine lv_iconst (v := (-1 : Int32)) hx hb dX7_loan_22 (by decide) ?_
    exact zr_i hx hb hr hlk rfl hP hD hS (f, st) [0, 1] rfl (by decide) dX7_loan_23 h
  · have h := h.2 c_2
    refine lv_iload_n hx hb dX7_loan_12 rfl (lv_at hl 2 rfl) ?_
    refine lv_i2l hx hb dX7_loan_13 rfl ?_
    refine lv_lconst (v := (0 : Int64)) hx hb dX7_loan_14 (by decide) ?_
    refine lv_lconst (v := (1 : Int64)) hx hb dX7_loan_15 (by decide) ?_
    refine zc_i (wc := []) (wr := [zM am f, zA (kk 1) (am 1) 252 st]) (w1 := (fun u : Unit => [])) (rest := []) [] [0, 1] rfl rfl (by decide) (by decide) (by decide) hA hP hD hS (fun hP hD => va_runS (As := [.long (p2.toInt64), .long (0 : Int64), .long (1 : Int64)]) (rest := []) ⟨hx, hb, hml, hown, hts⟩ (metX7_in l D kk _ (p2.toInt64) (0 : Int64) (1 : Int64) _ h) (va_cwS 3 hts (lw_S q1033 q1034 q71 q1035) rfl rfl rfl pdX7_in.2 ⟨(Nat.le_of_ble_eq_true rfl), (Nat.le_of_ble_eq_true rfl)⟩) (zp_S hK hN hP hD) rfl rfl hl.1 rfl (lv_room (Nat.le_of_ble_eq_true rfl)) dX7_loan_16 ⟨(Nat.le_of_ble_eq_true rfl), (Nat.le_of_ble_eq_true rfl)⟩) (fun r_3 u H locs h hP hD hS => ?_)
    try dsimp only at h
    have hP : va_P D vwCl [zM am f, zA (kk 1) (am 1) 252 st] H := hP
    have hD : va_D A [zM am f, zA (kk 1) (am 1) 252 st] := hD
    refine lv_if_ne (tgt := 24) hx hb dX7_loan_19 (by decide) (fun c_4 => ?_) (fun c_4 => ?_)
    · have h := h.2 c_4
      refine lv_aload_n hx hb dX7_loan_24 rfl (lv_at hl 0 rfl) ?_
      refine lv_iconst (v := (0 : Int32)) hx hb dX7_loan_25 (by decide) ?_
      refine lv_iload_n hx hb dX7_loan_26 rfl (lv_at hl 1 rfl) ?_
      have hrc := va_recv hK hP (ci := 7) (q0 := 0) rfl rfl
      refine zc_i (wc := [zM am f, zA (kk 1) (am 1) 252 st]) (wr := []) (w1 := (fun u : (Nat → Int32) × (Nat → Int32) => [zM am u.1, zA (kk 1) (am 1) 252 u.2])) (rest := []) [0, 1] [] rfl rfl (by decide) (by decide) (by decide) hA hP hD hS (fun hP hD => va_runV (As := [.int (0 : Int32), .int p1]) (rest := []) ⟨hx, hb, hml, hown, hts⟩ (metX7_weeksGo l D kk am _ f st (0 : Int32) p1 _ h) (cwV 2 hts (lw_V q1185 q1187 qs56 q71 q1188) rfl rfl rfl pdX7_weeksGo ⟨(Nat.le_of_ble_eq_true rfl), (Nat.le_of_ble_eq_true rfl)⟩) (zp_V hK hN hrc hP hD) rfl rfl hl.1 rfl (lv_room (Nat.le_of_ble_eq_true rfl)) dX7_loan_27 ⟨(Nat.le_of_ble_eq_true rfl), (Nat.le_of_ble_eq_true rfl)⟩) (fun r_5 u H locs h hP hD hS => ?_)
      obtain ⟨f_6, st_7⟩ := u
      try dsimp only at h
      have hP : va_P D vwCl [zM am f_6, zA (kk 1) (am 1) 252 st_7] H := hP
      have hD : va_D A [zM am f_6, zA (kk 1) (am 1) 252 st_7] := hD
      refine lv_istore_n (lv' := [(3, .int r_5), (0, .ref (am 0)), (1, .int p1), (2, .int p2)]) hx hb dX7_loan_30 rfl hl (by decide) rfl (fun ls hl => ?_)
      refine lv_bipush (v := (-4 : Int32)) hx hb dX7_loan_31 (by decide) ?_
      refine lv_istore (lv' := [(4, .int (-4 : Int32)), (3, .int r_5), (0, .ref (am 0)), (1, .int p1), (2, .int p2)]) hx hb dX7_loan_33 hl (by decide) rfl (fun ls hl => ?_)
      refine lv_iconst (v := (0 : Int32)) hx hb dX7_loan_35 (by decide) ?_
      have cut_38 : ∀ (nl38 : Nat) (f : Nat → Int32) (st : Nat → Int32) (x3 : Int32) (x4 : Int32) (x5 : Int32), wpX7_loan_38 p1 p2 Q  nl38 f st x3 x4 x5 → ∀ (H : Heap) (locs : List Loc), va_P D vwCl [zM am f, zA (kk 1) (am 1) 252 st] H → va_D A [zM am f, zA (kk 1) (am 1) 252 st] → va_S A s.heap H locs → ∀ ls : Array Slot, lv_has ls 8 [(3, .int x3), (4, .int x4), (5, .int x5), (0, .ref (am 0)), (1, .int p1), (2, .int p2)] → W p l e { frames := 5, cells := 0, slots := 0, locals := 122 } s m ([.ref (am 0), .int p1, .int p2] : List Value).toArray below meth c H locs 0 0 (MQ below (va_Qi (fun (r : Int32) (u : (Nat → Int32) × (Nat → Int32)) => Q r u.1 u.2) (zB D A (fun u : (Nat → Int32) × (Nat → Int32) => [zM am u.1, zA (kk 1) (am 1) 252 u.2])) A) ([.ref (am 0), .int p1, .int p2] : List Value).toArray s 0 0 A) (F0 m 38 ls []) := by
        intro nl38
        induction nl38 with
        | zero => intro f st x3 x4 x5 h; exact absurd h id
        | succ nl38 ih_38 =>
          intro f st x3 x4 x5 h H locs hP hD hS ls hl
          have h : wbX7_loan_38 p1 p2 Q  (wpX7_loan_38 p1 p2 Q  nl38) f st x3 x4 x5 := h
          unfold wbX7_loan_38 at h
          refine lv_iload hx hb dX7_loan_38 (lv_at hl 2 rfl) ?_
          refine lv_aload_n hx hb dX7_loan_40 rfl (lv_at hl 3 rfl) ?_
          refine va_get (D := D) (ci := 7) (v := .int (f 1)) (C := RX7) (T := TX7) (N := 29) hx hb hts in_X7 hown hK hP 0 rfl rfl 1 (Nat.le_of_ble_eq_true rfl) (hts _ q940) (fun _ h9 => h9) rfl dX7_loan_41 ?_
          refine lv_icmp_ge (tgt := 145) hx hb dX7_loan_44 (by decide) (fun c_8 => ?_) (fun c_8 => ?_)
          · have h := h.1 c_8
            refine lv_iload hx hb dX7_loan_145 (lv_at hl 1 rfl) ?_
            refine lv_bipush (v := (-4 : Int32)) hx hb dX7_loan_147 (by decide) ?_
            have cut_156 : ∀ (f : Nat → Int32) (st : Nat → Int32) (x4 : Int32), wpX7_loan_156 p1 p2 Q (wpX7_loan_38 p1 p2 Q  nl38) f st x4 → ∀ (H : Heap) (locs : List Loc), va_P D vwCl [zM am f, zA (kk 1) (am 1) 252 st] H → va_D A [zM am f, zA (kk 1) (am 1) 252 st] → va_S A s.heap H locs → ∀ ls : Array Slot, lv_has ls 8 [(4, .int x4)] → W p l e { frames := 5, cells := 0, slots := 0, locals := 122 } s m ([.ref (am 0), .int p1, .int p2] : List Value).toArray below meth c H locs 0 0 (MQ below (va_Qi (fun (r : Int32) (u : (Nat → Int32) × (Nat → Int32)) => Q r u.1 u.2) (zB D A (fun u : (Nat → Int32) × (Nat → Int32) => [zM am u.1, zA (kk 1) (am 1) 252 u.2])) A) ([.ref (am 0), .int p1, .int p2] : List Value).toArray s 0 0 A) (F0 m 156 ls []) := by
              intro f st x4 h H locs hP hD hS ls hl
              unfold wpX7_loan_156 at h
              refine lv_iload hx hb dX7_loan_156 (lv_at hl 0 rfl) ?_
              refine lv_goto (tgt := 162) hx hb dX7_loan_158 (by decide) ?_
              exact zr_i hx hb hr hlk rfl hP hD hS (f, st) [0, 1] rfl (by decide) dX7_loan_162 h
            refine lv_icmp_eq (tgt := 156) hx hb dX7_loan_149 (by decide) (fun c_9 => ?_) (fun c_9 => ?_)
            · have h := h.1 c_9
              exact cut_156 f st x4 h _ _ hP hD hS _ (lv_sub hl [1] rfl)
            · have h := h.2 c_9
              refine lv_iload_n hx hb dX7_loan_152 rfl (lv_at hl 5 rfl) ?_
              refine lv_if_ne (tgt := 161) hx hb dX7_loan_153 (by decide) (fun c_10 => ?_) (fun c_10 => ?_)
              · have h := h.2 c_10
                refine lv_iload_n hx hb dX7_loan_161 rfl (lv_at hl 0 rfl) ?_
                exact zr_i hx hb hr hlk rfl hP hD hS (f, st) [0, 1] rfl (by decide) dX7_loan_162 h
              · have h := h.1 c_10
                exact cut_156 f st x4 h _ _ hP hD hS _ (lv_sub hl [1] rfl)
          · have h := h.2 c_8
            refine lv_iconst (v := (0 : Int32)) hx hb dX7_loan_47 (by decide) ?_
            have cut_50 : ∀ (nl50 : Nat) (f : Nat → Int32) (st : Nat → Int32) (x3 : Int32) (x4 : Int32) (x5 : Int32) (x6 : Int32), wpX7_loan_50 p1 p2 Q (wpX7_loan_38 p1 p2 Q  nl38) nl50 f st x3 x4 x5 x6 → ∀ (H : Heap) (locs : List Loc), va_P D vwCl [zM am f, zA (kk 1) (am 1) 252 st] H → va_D A [zM am f, zA (kk 1) (am 1) 252 st] → va_S A s.heap H locs → ∀ ls : Array Slot, lv_has ls 8 [(3, .int x3), (4, .int x4), (5, .int x5), (6, .int x6), (0, .ref (am 0)), (1, .int p1), (2, .int p2)] → W p l e { frames := 5, cells := 0, slots := 0, locals := 122 } s m ([.ref (am 0), .int p1, .int p2] : List Value).toArray below meth c H locs 0 0 (MQ below (va_Qi (fun (r : Int32) (u : (Nat → Int32) × (Nat → Int32)) => Q r u.1 u.2) (zB D A (fun u : (Nat → Int32) × (Nat → Int32) => [zM am u.1, zA (kk 1) (am 1) 252 u.2])) A) ([.ref (am 0), .int p1, .int p2] : List Value).toArray s 0 0 A) (F0 m 50 ls []) := by
              intro nl50
              induction nl50 with
              | zero => intro f st x3 x4 x5 x6 h; exact absurd h id
              | succ nl50 ih_50 =>
                intro f st x3 x4 x5 x6 h H locs hP hD hS ls hl
                have h : wbX7_loan_50 p1 p2 Q (wpX7_loan_38 p1 p2 Q  nl38) (wpX7_loan_50 p1 p2 Q (wpX7_loan_38 p1 p2 Q  nl38) nl50) f st x3 x4 x5 x6 := h
                unfold wbX7_loan_50 at h
                refine lv_iload hx hb dX7_loan_50 (lv_at hl 3 rfl) ?_
                refine lv_aload_n hx hb dX7_loan_52 rfl (lv_at hl 4 rfl) ?_
                refine va_get (D := D) (ci := 7) (v := .int (f 1)) (C := RX7) (T := TX7) (N := 29) hx hb hts in_X7 hown hK hP 0 rfl rfl 1 (Nat.le_of_ble_eq_true rfl) (hts _ q940) (fun _ h9 => h9) rfl dX7_loan_53 ?_
                refine lv_icmp_ge (tgt := 139) hx hb dX7_loan_56 (by decide) (fun c_11 => ?_) (fun c_11 => ?_)
                · have h := h.1 c_11
                  refine lv_iinc (v := (x5 + 1)) (lv' := [(5, .int (x5 + 1)), (3, .int x3), (4, .int x4), (6, .int x6), (0, .ref (am 0)), (1, .int p1), (2, .int p2)]) hx hb dX7_loan_139 hl (k := 2) rfl rfl (by decide) rfl (fun ls hl => ?_)
                  refine lv_goto (tgt := 38) hx hb dX7_loan_142 (by decide) ?_
                  exact ih_38 f st x3 x4 (x5 + 1) h _ _ hP hD hS _ (lv_sub hl [1, 2, 0, 4, 5, 6] rfl)
                · have h := h.2 c_11
                  refine lv_aload_n hx hb dX7_loan_59 rfl (lv_at hl 4 rfl) ?_
                  refine lv_iconst (v := (0 : Int32)) hx hb dX7_loan_60 (by decide) ?_
                  refine lv_sipush (v := (210 : Int32)) hx hb dX7_loan_61 (by decide) ?_
                  have hrc := va_recv hK hP (ci := 7) (q0 := 0) rfl rfl
                  refine zc_v (wc := [zM am f, zA (kk 1) (am 1) 252 st]) (wr := []) (w1 := (fun u : (Nat → Int32) => [zM am f, zA (kk 1) (am 1) 252 u])) (rest := []) [0, 1] [] rfl rfl (by decide) (by decide) (by decide) hA hP hD hS (fun hP hD => va_runV (As := [.int (0 : Int32), .int (210 : Int32)]) (rest := []) ⟨hx, hb, hml, hown, hts⟩ (metX7_copies l D kk am _ f st (0 : Int32) (210 : Int32) _ h) (cwV 2 hts (lw_V q1189 q1191 qs57 q71 q1192) rfl rfl rfl pdX7_copies ⟨(Nat.le_of_ble_eq_true rfl), (Nat.le_of_ble_eq_true rfl)⟩) (zp_V hK hN hrc hP hD) rfl rfl hl.1 rfl (lv_room (Nat.le_of_ble_eq_true rfl)) dX7_loan_64 ⟨(Nat.le_of_ble_eq_true rfl), (Nat.le_of_ble_eq_true rfl)⟩) (fun u H locs h hP hD hS => ?_)
                  obtain ⟨st_13, rfl⟩ : ∃ z, z = u := ⟨_, rfl⟩
                  try dsimp only at h
                  have hP : va_P D vwCl [zM am f, zA (kk 1) (am 1) 252 st_13] H := hP
                  have hD : va_D A [zM am f, zA (kk 1) (am 1) 252 st_13] := hD
                  refine lv_iload hx hb dX7_loan_67 (lv_at hl 2 rfl) ?_
                  refine lv_iload hx hb dX7_loan_69 (lv_at hl 3 rfl) ?_
                  have cut_133 : ∀ (f : Nat → Int32) (st : Nat → Int32) (x3 : Int32) (x4 : Int32) (x5 : Int32) (x6 : Int32), wpX7_loan_133 p1 p2 Q (wpX7_loan_38 p1 p2 Q  nl38) (wpX7_loan_50 p1 p2 Q (wpX7_loan_38 p1 p2 Q  nl38) nl50) f st x3 x4 x5 x6 → ∀ (H : Heap) (locs : List Loc), va_P D vwCl [zM am f, zA (kk 1) (am 1) 252 st] H → va_D A [zM am f, zA (kk 1) (am 1) 252 st] → va_S A s.heap H locs → ∀ ls : Array Slot, lv_has ls 8 [(3, .int x3), (4, .int x4), (5, .int x5), (6, .int x6), (0, .ref (am 0)), (1, .int p1), (2, .int p2)] → W p l e { frames := 5, cells := 0, slots := 0, locals := 122 } s m ([.ref (am 0), .int p1, .int p2] : List Value).toArray below meth c H locs 0 0 (MQ below (va_Qi (fun (r : Int32) (u : (Nat → Int32) × (Nat → Int32)) => Q r u.1 u.2) (zB D A (fun u : (Nat → Int32) × (Nat → Int32) => [zM am u.1, zA (kk 1) (am 1) 252 u.2])) A) ([.ref (am 0), .int p1, .int p2] : List Value).toArray s 0 0 A) (F0 m 133 ls []) := by
                    intro f st x3 x4 x5 x6 h H locs hP hD hS ls hl
                    unfold wpX7_loan_133 at h
                    refine lv_iinc (v := (x6 + 1)) (lv' := [(6, .int (x6 + 1)), (3, .int x3), (4, .int x4), (5, .int x5), (0, .ref (am 0)), (1, .int p1), (2, .int p2)]) hx hb dX7_loan_133 hl (k := 3) rfl rfl (by decide) rfl (fun ls hl => ?_)
                    refine lv_goto (tgt := 50) hx hb dX7_loan_136 (by decide) ?_
                    exact ih_50 f st x3 x4 x5 (x6 + 1) h _ _ hP hD hS _ (lv_sub hl [1, 2, 3, 0, 4, 5, 6] rfl)
                  refine lv_icmp_eq (tgt := 133) hx hb dX7_loan_71 (by decide) (fun c_14 => ?_) (fun c_14 => ?_)
                  · have h := h.1 c_14
                    exact cut_133 f st_13 x3 x4 x5 x6 h _ _ hP hD hS _ (lv_sub hl [0, 1, 2, 3, 4, 5, 6] rfl)
                  · have h := h.2 c_14
                    refine lv_aload_n hx hb dX7_loan_74 rfl (lv_at hl 4 rfl) ?_
                    refine lv_sipush (v := (210 : Int32)) hx hb dX7_loan_75 (by decide) ?_
                    refine lv_iload hx hb dX7_loan_78 (lv_at hl 2 rfl) ?_
                    refine lv_iload hx hb dX7_loan_80 (lv_at hl 3 rfl) ?_
                    refine lv_iconst (v := (1 : Int32)) hx hb dX7_loan_82 (by decide) ?_
                    have hrc := va_recv hK hP (ci := 7) (q0 := 0) rfl rfl
                    refine zc_i (wc := [zM am f, zA (kk 1) (am 1) 252 st_13]) (wr := []) (w1 := (fun u : (Nat → Int32) => [zM am f, zA (kk 1) (am 1) 252 u])) (rest := []) [0, 1] [] rfl rfl (by decide) (by decide) (by decide) hA hP hD hS (fun hP hD => va_runV (As := [.int (210 : Int32), .int x5, .int x6, .int (1 : Int32)]) (rest := []) ⟨hx, hb, hml, hown, hts⟩ (metX7_lendsOn l D kk am _ f st_13 (210 : Int32) x5 x6 (1 : Int32) _ h) (cwV 4 hts (lw_V q1147 q1149 qs51 q71 q1150) rfl rfl rfl pdX7_lendsOn ⟨(Nat.le_of_ble_eq_true rfl), (Nat.le_of_ble_eq_true rfl)⟩) (zp_V hK hN hrc hP hD) rfl rfl hl.1 rfl (lv_room (Nat.le_of_ble_eq_true rfl)) dX7_loan_83 ⟨(Nat.le_of_ble_eq_true rfl), (Nat.le_of_ble_eq_true rfl)⟩) (fun r_15 u H locs h hP hD hS => ?_)
                    obtain ⟨st_16, rfl⟩ : ∃ z, z = u := ⟨_, rfl⟩
                    try dsimp only at h
                    have hP : va_P D vwCl [zM am f, zA (kk 1) (am 1) 252 st_16] H := hP
                    have hD : va_D A [zM am f, zA (kk 1) (am 1) 252 st_16] := hD
                    refine lv_if_lt (tgt := 133) hx hb dX7_loan_86 (by decide) (fun c_17 => ?_) (fun c_17 => ?_)
                    · have h := h.1 c_17
                      exact cut_133 f st_16 x3 x4 x5 x6 h _ _ hP hD hS _ (lv_sub hl [0, 1, 2, 3, 4, 5, 6] rfl)
                    · have h := h.2 c_17
                      refine lv_aload_n hx hb dX7_loan_89 rfl (lv_at hl 4 rfl) ?_
                      refine lv_sipush (v := (210 : Int32)) hx hb dX7_loan_90 (by decide) ?_
                      refine lv_iload_n hx hb dX7_loan_93 rfl (lv_at hl 5 rfl) ?_
                      have hrc := va_recv hK hP (ci := 7) (q0 := 0) rfl rfl
                      refine zc_i (wc := [zM am f, zA (kk 1) (am 1) 252 st_16]) (wr := []) (w1 := (fun u : (Nat → Int32) × (Nat → Int32) => [zM am u.1, zA (kk 1) (am 1) 252 u.2])) (rest := []) [0, 1] [] rfl rfl (by decide) (by decide) (by decide) hA hP hD hS (fun hP hD => va_runV (As := [.int (210 : Int32), .int p1]) (rest := []) ⟨hx, hb, hml, hown, hts⟩ (metX7_weeksGo l D kk am _ f st_16 (210 : Int32) p1 _ h) (cwV 2 hts (lw_V q1185 q1187 qs56 q71 q1188) rfl rfl rfl pdX7_weeksGo ⟨(Nat.le_of_ble_eq_true rfl), (Nat.le_of_ble_eq_true rfl)⟩) (zp_V hK hN hrc hP hD) rfl rfl hl.1 rfl (lv_room (Nat.le_of_ble_eq_true rfl)) dX7_loan_94 ⟨(Nat.le_of_ble_eq_true rfl), (Nat.le_of_ble_eq_true rfl)⟩) (fun r_18 u H locs h hP hD hS => ?_)
                      obtain ⟨f_19, st_20⟩ := u
                      try dsimp only at h
                      have hP : va_P D vwCl [zM am f_19, zA (kk 1) (am 1) 252 st_20] H := hP
                      have hD : va_D A [zM am f_19, zA (kk 1) (am 1) 252 st_20] := hD
                      refine lv_istore (lv' := [(7, .int r_18), (3, .int x3), (4, .int x4), (5, .int x5), (6, .int x6), (0, .ref (am 0)), (1, .int p1), (2, .int p2)]) hx hb dX7_loan_97 hl (by decide) rfl (fun ls hl => ?_)
                      refine lv_iload hx hb dX7_loan_99 (lv_at hl 0 rfl) ?_
                      refine lv_iload_n hx hb dX7_loan_101 rfl (lv_at hl 1 rfl) ?_
                      have cut_118 : ∀ (f : Nat → Int32) (st : Nat → Int32) (x3 : Int32) (x5 : Int32) (x6 : Int32) (x7 : Int32) (s0 : Int32), wpX7_loan_118 p1 p2 Q (wpX7_loan_38 p1 p2 Q  nl38) (wpX7_loan_50 p1 p2 Q (wpX7_loan_38 p1 p2 Q  nl38) nl50) f st x3 x5 x6 x7 s0 → ∀ (H : Heap) (locs : List Loc), va_P D vwCl [zM am f, zA (kk 1) (am 1) 252 st] H → va_D A [zM am f, zA (kk 1) (am 1) 252 st] → va_S A s.heap H locs → ∀ ls : Array Slot, lv_has ls 8 [(3, .int x3), (5, .int x5), (6, .int x6), (7, .int x7), (0, .ref (am 0)), (1, .int p1), (2, .int p2)] → W p l e { frames := 5, cells := 0, slots := 0, locals := 122 } s m ([.ref (am 0), .int p1, .int p2] : List Value).toArray below meth c H locs 0 0 (MQ below (va_Qi (fun (r : Int32) (u : (Nat → Int32) × (Nat → Int32)) => Q r u.1 u.2) (zB D A (fun u : (Nat → Int32) × (Nat → Int32) => [zM am u.1, zA (kk 1) (am 1) 252 u.2])) A) ([.ref (am 0), .int p1, .int p2] : List Value).toArray s 0 0 A) (F0 m 118 ls [.int s0]) := by
                        intro f st x3 x5 x6 x7 s0 h H locs hP hD hS ls hl
                        unfold wpX7_loan_118 at h
                        refine lv_istore (lv' := [(4, .int s0), (3, .int x3), (5, .int x5), (6, .int x6), (7, .int x7), (0, .ref (am 0)), (1, .int p1), (2, .int p2)]) hx hb dX7_loan_118 hl (by decide) rfl (fun ls hl => ?_)
                        refine lv_iload hx hb dX7_loan_120 (lv_at hl 4 rfl) ?_
                        refine lv_iload_n hx hb dX7_loan_122 rfl (lv_at hl 1 rfl) ?_
                        have cut_132 : ∀ (f : Nat → Int32) (st : Nat → Int32) (x4 : Int32) (x5 : Int32) (x6 : Int32) (s0 : Int32), wpX7_loan_132 p1 p2 Q (wpX7_loan_38 p1 p2 Q  nl38) (wpX7_loan_50 p1 p2 Q (wpX7_loan_38 p1 p2 Q  nl38) nl50) f st x4 x5 x6 s0 → ∀ (H : Heap) (locs : List Loc), va_P D vwCl [zM am f, zA (kk 1) (am 1) 252 st] H → va_D A [zM am f, zA (kk 1) (am 1) 252 st] → va_S A s.heap H locs → ∀ ls : Array Slot, lv_has ls 8 [(4, .int x4), (5, .int x5), (6, .int x6), (0, .ref (am 0)), (1, .int p1), (2, .int p2)] → W p l e { frames := 5, cells := 0, slots := 0, locals := 122 } s m ([.ref (am 0), .int p1, .int p2] : List Value).toArray below meth c H locs 0 0 (MQ below (va_Qi (fun (r : Int32) (u : (Nat → Int32) × (Nat → Int32)) => Q r u.1 u.2) (zB D A (fun u : (Nat → Int32) × (Nat → Int32) => [zM am u.1, zA (kk 1) (am 1) 252 u.2])) A) ([.ref (am 0), .int p1, .int p2] : List Value).toArray s 0 0 A) (F0 m 132 ls [.int s0]) := by
                          intro f st x4 x5 x6 s0 h H locs hP hD hS ls hl
                          unfold wpX7_loan_132 at h
                          refine lv_istore_n (lv' := [(3, .int s0), (4, .int x4), (5, .int x5), (6, .int x6), (0, .ref (am 0)), (1, .int p1), (2, .int p2)]) hx hb dX7_loan_132 rfl hl (by decide) rfl (fun ls hl => ?_)
                          exact cut_133 f st s0 x4 x5 x6 h _ _ hP hD hS _ (lv_sub hl [0, 1, 2, 3, 4, 5, 6] rfl)
                        refine lv_icmp_ge (tgt := 131) hx hb dX7_loan_123 (by decide) (fun c_21 => ?_) (fun c_21 => ?_)
                        · have h := h.1 c_21
                          refine lv_iload_n hx hb dX7_loan_131 rfl (lv_at hl 1 rfl) ?_
                          exact cut_132 f st s0 x5 x6 x3 h _ _ hP hD hS _ (lv_sub hl [0, 2, 3, 5, 6, 7] rfl)
                        · have h := h.2 c_21
                          refine lv_iload hx hb dX7_loan_126 (lv_at hl 4 rfl) ?_
                          refine lv_goto (tgt := 132) hx hb dX7_loan_128 (by decide) ?_
                          exact cut_132 f st s0 x5 x6 x7 h _ _ hP hD hS _ (lv_sub hl [0, 2, 3, 5, 6, 7] rfl)
                      refine lv_icmp_ge (tgt := 116) hx hb dX7_loan_102 (by decide) (fun c_22 => ?_) (fun c_22 => ?_)
                      · have h := h.1 c_22
                        refine lv_iload hx hb dX7_loan_116 (lv_at hl 2 rfl) ?_
                        exact cut_118 f_19 st_20 x3 x5 x6 r_18 x4 h _ _ hP hD hS _ (lv_sub hl [1, 3, 4, 0, 5, 6, 7] rfl)
                      · have h := h.2 c_22
                        refine lv_bipush (v := (10 : Int32)) hx hb dX7_loan_105 (by decide) ?_
                        refine lv_iload hx hb dX7_loan_107 (lv_at hl 3 rfl) ?_
                        refine lv_imul hx hb dX7_loan_109 ?_
                        refine lv_iload hx hb dX7_loan_110 (lv_at hl 4 rfl) ?_
                        refine lv_iadd hx hb dX7_loan_112 ?_
                        refine lv_goto (tgt := 118) hx hb dX7_loan_113 (by decide) ?_
                        exact cut_118 f_19 st_20 x3 x5 x6 r_18 (((10 : Int32) * x5) + x6) h _ _ hP hD hS _ (lv_sub hl [1, 3, 4, 0, 5, 6, 7] rfl)
            refine lv_istore (lv' := [(6, .int (0 : Int32)), (3, .int x3), (4, .int x4), (5, .int x5), (0, .ref (am 0)), (1, .int p1), (2, .int p2)]) hx hb dX7_loan_48 hl (by decide) rfl (fun ls hl => ?_)
            obtain ⟨n_50, h⟩ := h
            exact cut_50 n_50 f st x3 x4 x5 (0 : Int32) h _ _ hP hD hS _ (lv_sub hl [1, 2, 3, 0, 4, 5, 6] rfl)
      refine lv_istore (lv' := [(5, .int (0 : Int32)), (4, .int (-4 : Int32)), (3, .int r_5), (0, .ref (am 0)), (1, .int p1), (2, .int p2)]) hx hb dX7_loan_36 hl (by decide) rfl (fun ls hl => ?_)
      obtain ⟨n_38, h⟩ := h
      exact cut_38 n_38 f_6 st_7 r_5 (-4 : Int32) (0 : Int32) h _ _ hP hD hS _ (lv_sub hl [2, 1, 0, 3, 4, 5] rfl)
    · have h := h.1 c_4
      refine lv_iconst (v := (-1 : Int32)) hx hb dX7_loan_22 (by decide) ?_
      exact zr_i hx hb hr hlk rfl hP hD hS (f, st) [0, 1] rfl (by decide) dX7_loan_23 h
def wpX7_swap_227 (p1 : Int32) (p2 : Int32) (Q : Int32 → (Nat → Int32) → (Nat → Int32) → Prop) (k38 : (Nat → Int32) → (Nat → Int32) → Int32 → Int32 → Int32 → Prop) (f : Nat → Int32) (st : Nat → Int32) (x4 : Int32) : Prop :=
  Q x4 f st
def wpX7_swap_203 (p1 : Int32) (p2 : Int32) (Q : Int32 → (Nat → Int32) → (Nat → Int32) → Prop) (k38 : (Nat → Int32) → (Nat → Int32) → Int32 → Int32 → Int32 → Prop) (k56 : (Nat → Int32) → (Nat → Int32) → Int32 → Int32 → Int32 → Int32 → Prop) (f : Nat → Int32) (st : Nat → Int32) (x4 : Int32) (x5 : Int32) (x6 : Int32) (s0 : Int32) : Prop :=
  k56 f st s0 x4 x5 (x6 + 1)
def wpX7_swap_189 (p1 : Int32) (p2 : Int32) (Q : Int32 → (Nat → Int32) → (Nat → Int32) → Prop) (k38 : (Nat → Int32) → (Nat → Int32) → Int32 → Int32 → Int32 → Prop) (k56 : (Nat → Int32) → (Nat → Int32) → Int32 → Int32 → Int32 → Int32 → Prop) (f : Nat → Int32) (st : Nat → Int32) (x3 : Int32) (x5 : Int32) (x6 : Int32) (x7 : Int32) (s0 : Int32) : Prop :=
  ((x3 ≤ x7 → wpX7_swap_203 p1 p2 Q k38 k56 f st s0 x5 x6 x3) ∧ (¬ x3 ≤ x7 → wpX7_swap_203 p1 p2 Q k38 k56 f st s0 x5 x6 x7))
def wbX7_swap_56 (p1 : Int32) (p2 : Int32) (Q : Int32 → (Nat → Int32) → (Nat → Int32) → Prop) (k38 : (Nat → Int32) → (Nat → Int32) → Int32 → Int32 → Int32 → Prop) (k56 : (Nat → Int32) → (Nat → Int32) → Int32 → Int32 → Int32 → Int32 → Prop) (f : Nat → Int32) (st : Nat → Int32) (x3 : Int32) (x4 : Int32) (x5 : Int32) (x6 : Int32) : Prop :=
  (((st (40 : Int32).toNatClampNeg) ≤ x6 → k38 f st x3 x4 (x5 + 1)) ∧ (¬ (st (40 : Int32).toNatClampNeg) ≤ x6 → (wpX7_copies st (0 : Int32) (210 : Int32) (fun st_13 => (vp_in ((20 : Int32) + x6) 252 ∧ (∀ v_14 : Int32, v_14 = (st_13 ((20 : Int32) + x6).toNatClampNeg) → (vp_in ((230 : Int32) + x5) 252 ∧ (vp_in ((30 : Int32) + x6) 252 ∧ (∀ v_15 : Int32, v_15 = ((upd st_13 ((230 : Int32) + x5).toNatClampNeg v_14) ((30 : Int32) + x6).toNatClampNeg) → (vp_in ((240 : Int32) + x5) 252 ∧ (vp_in ((20 : Int32) + x5) 252 ∧ (∀ v_16 : Int32, v_16 = ((upd (upd st_13 ((230 : Int32) + x5).toNatClampNeg v_14) ((240 : Int32) + x5).toNatClampNeg v_15) ((20 : Int32) + x5).toNatClampNeg) → (vp_in ((230 : Int32) + x6) 252 ∧ (vp_in ((30 : Int32) + x5) 252 ∧ (∀ v_17 : Int32, v_17 = ((upd (upd (upd st_13 ((230 : Int32) + x5).toNatClampNeg v_14) ((240 : Int32) + x5).toNatClampNeg v_15) ((230 : Int32) + x6).toNatClampNeg v_16) ((30 : Int32) + x5).toNatClampNeg) → (vp_in ((240 : Int32) + x6) 252 ∧ (wpX7_weeksGo f (upd (upd (upd (upd st_13 ((230 : Int32) + x5).toNatClampNeg v_14) ((240 : Int32) + x5).toNatClampNeg v_15) ((230 : Int32) + x6).toNatClampNeg v_16) ((240 : Int32) + x6).toNatClampNeg v_17) (210 : Int32) p1 (fun r_18 f_19 st_20 => ((x3 ≤ r_18 → wpX7_swap_189 p1 p2 Q k38 k56 f_19 st_20 x3 x5 x6 r_18 x4) ∧ (¬ x3 ≤ r_18 → wpX7_swap_189 p1 p2 Q k38 k56 f_19 st_20 x3 x5 x6 r_18 (((10 : Int32) * x5) + x6)))))))))))))))))))))
def wpX7_swap_56 (p1 : Int32) (p2 : Int32) (Q : Int32 → (Nat → Int32) → (Nat → Int32) → Prop) (k38 : (Nat → Int32) → (Nat → Int32) → Int32 → Int32 → Int32 → Prop) (n : Nat) : (Nat → Int32) → (Nat → Int32) → Int32 → Int32 → Int32 → Int32 → Prop :=
  Nat.rec (motive := fun _ => (Nat → Int32) → (Nat → Int32) → Int32 → Int32 → Int32 → Int32 → Prop) (fun _ _ _ _ _ _ => False) (fun _ k => wbX7_swap_56 p1 p2 Q k38 k) n
def wbX7_swap_38 (p1 : Int32) (p2 : Int32) (Q : Int32 → (Nat → Int32) → (Nat → Int32) → Prop) (k38 : (Nat → Int32) → (Nat → Int32) → Int32 → Int32 → Int32 → Prop) (f : Nat → Int32) (st : Nat → Int32) (x3 : Int32) (x4 : Int32) (x5 : Int32) : Prop :=
  (((st (40 : Int32).toNatClampNeg) ≤ x5 → ((x4 = (-4 : Int32) → wpX7_swap_227 p1 p2 Q k38 f st x4) ∧ (¬ x4 = (-4 : Int32) → ((p2 = 0 → wpX7_swap_227 p1 p2 Q k38 f st x4) ∧ (¬ p2 = 0 → Q x3 f st))))) ∧ (¬ (st (40 : Int32).toNatClampNeg) ≤ x5 → (∃ n : Nat, wpX7_swap_56 p1 p2 Q k38 n f st x3 x4 x5 (x5 + (1 : Int32)))))
def wpX7_swap_38 (p1 : Int32) (p2 : Int32) (Q : Int32 → (Nat → Int32) → (Nat → Int32) → Prop) (n : Nat) : (Nat → Int32) → (Nat → Int32) → Int32 → Int32 → Int32 → Prop :=
  Nat.rec (motive := fun _ => (Nat → Int32) → (Nat → Int32) → Int32 → Int32 → Int32 → Prop) (fun _ _ _ _ _ => False) (fun _ k => wbX7_swap_38 p1 p2 Q  k) n
def wpX7_swap (f : Nat → Int32) (st : Nat → Int32) (p1 : Int32) (p2 : Int32) (Q : Int32 → (Nat → Int32) → (Nat → Int32) → Prop) : Prop :=
  (wpX7_in (p1.toInt64) (0 : Int64) (60 : Int64) (fun r_1 => ((r_1 = 0 → Q (-1 : Int32) f st) ∧ (¬ r_1 = 0 → (wpX7_in (p2.toInt64) (0 : Int64) (1 : Int64) (fun r_3 => ((r_3 = 0 → Q (-1 : Int32) f st) ∧ (¬ r_3 = 0 → (wpX7_weeksGo f st (0 : Int32) p1 (fun r_5 f_6 st_7 => (∃ n : Nat, wpX7_swap_38 p1 p2 Q  n f_6 st_7 r_5 (-4 : Int32) (0 : Int32))))))))))))
set_option maxHeartbeats 4000000 in
theorem metX7_swap (l : Launch) (D : va_G) (kk : Nat → ClassId) (am : Nat → Nat) (sz : Nat) (f : Nat → Int32) (st : Nat → Int32) (p1 : Int32) (p2 : Int32) (Q : Int32 → (Nat → Int32) → (Nat → Int32) → Prop) (h : wpX7_swap f st p1 p2 Q) : Met l yX7_swap (ws_ yX7_swap cX7_swap 8 (some .int)) { frames := 5, cells := 0, slots := 0, locals := 122 } (va_Pc ([.ref (am 0), .int p1, .int p2] : List Value) (zPc D kk [zM am f, zA (kk 1) (am 1) 252 st] sz)) (va_Qi (fun (r : Int32) (u : (Nat → Int32) × (Nat → Int32)) => Q r u.1 u.2) (zB D (va_A [zM am f, zA (kk 1) (am 1) 252 st] sz) (fun u : (Nat → Int32) × (Nat → Int32) => [zM am u.1, zA (kk 1) (am 1) 252 u.2])) (va_A [zM am f, zA (kk 1) (am 1) 252 st] sz)) 0 0 (va_A [zM am f, zA (kk 1) (am 1) 252 st] sz) := by
  refine zMet (Qc := fun A => va_Qi (fun (r : Int32) (u : (Nat → Int32) × (Nat → Int32)) => Q r u.1 u.2) (zB D A (fun u : (Nat → Int32) × (Nat → Int32) => [zM am u.1, zA (kk 1) (am 1) 252 u.2])) A) (by decide) (Nat.le_of_ble_eq_true rfl) ?_
  intro p e s m below meth c A X hP hD hS ls hl
  obtain ⟨hx, hb, hr, hml, hown, hts, hlk, hnm, hK, hN, hA⟩ := X
  have hown : s.vm.findClass "LoseLeagueModel" = some m.cls := hown
  have hl : lv_has ls 8 [(0, .ref (am 0)), (1, .int p1), (2, .int p2)] := hl
  unfold wpX7_swap at h
  refine lv_iload_n hx hb dX7_swap_0 rfl (lv_at hl 1 rfl) ?_
  refine lv_i2l hx hb dX7_swap_1 rfl ?_
  refine lv_lconst (v := (0 : Int64)) hx hb dX7_swap_2 (by decide) ?_
  refine lv_ldc2 (v := (60 : Int64)) hx hb hown (hts _ q1184) dX7_swap_3 ?_
  refine zc_i (wc := []) (wr := [zM am f, zA (kk 1) (am 1) 252 st]) (w1 := (fun u : Unit => [])) (rest := []) [] [0, 1] rfl rfl (by decide) (by decide) (by decide) hA hP hD hS (fun hP hD => va_runS (As := [.long (p1.toInt64), .long (0 : Int64), .long (60 : Int64)]) (rest := []) ⟨hx, hb, hml, hown, hts⟩ (metX7_in l D kk _ (p1.toInt64) (0 : Int64) (60 : Int64) _ h) (va_cwS 3 hts (lw_S q1033 q1034 q71 q1035) rfl rfl rfl pdX7_in.2 ⟨(Nat.le_of_ble_eq_true rfl), (Nat.le_of_ble_eq_true rfl)⟩) (zp_S hK hN hP hD) rfl rfl hl.1 rfl (lv_room (Nat.le_of_ble_eq_true rfl)) dX7_swap_6 ⟨(Nat.le_of_ble_eq_true rfl), (Nat.le_of_ble_eq_true rfl)⟩) (fun r_1 u H locs h hP hD hS => ?_)
  try dsimp only at h
  have hP : va_P D vwCl [zM am f, zA (kk 1) (am 1) 252 st] H := hP
  have hD : va_D A [zM am f, zA (kk 1) (am 1) 252 st] := hD
  refine lv_if_eq (tgt := 22) hx hb dX7_swap_9 (by decide) (fun c_2 => ?_) (fun c_2 => ?_)
  · have h := h.1 c_2
    refine lv_iconst (v := (-1 : Int32)) hx hb dX7_swap_22 (by decide) ?_
    exact zr_i hx hb hr hlk rfl hP hD hS (f, st) [0, 1] rfl (by decide) dX7_swap_23 h
  · have h := h.2 c_2
    refine lv_iload_n hx hb dX7_swap_12 rfl (lv_at hl 2 rfl) ?_
    refine lv_i2l hx hb dX7_swap_13 rfl ?_
    refine lv_lconst (v := (0 : Int64)) hx hb dX7_swap_14 (by decide) ?_
    refine lv_lconst (v := (1 : Int64)) hx hb dX7_swap_15 (by decide) ?_
    refine zc_i (wc := []) (wr := [zM am f, zA (kk 1) (am 1) 252 st]) (w1 := (fun u : Unit => [])) (rest := []) [] [0, 1] rfl rfl (by decide) (by decide) (by decide) hA hP hD hS (fun hP hD => va_runS (As := [.long (p2.toInt64), .long (0 : Int64), .long (1 : Int64)]) (rest := []) ⟨hx, hb, hml, hown, hts⟩ (metX7_in l D kk _ (p2.toInt64) (0 : Int64) (1 : Int64) _ h) (va_cwS 3 hts (lw_S q1033 q1034 q71 q1035) rfl rfl rfl pdX7_in.2 ⟨(Nat.le_of_ble_eq_true rfl), (Nat.le_of_ble_eq_true rfl)⟩) (zp_S hK hN hP hD) rfl rfl hl.1 rfl (lv_room (Nat.le_of_ble_eq_true rfl)) dX7_swap_16 ⟨(Nat.le_of_ble_eq_true rfl), (Nat.le_of_ble_eq_true rfl)⟩) (fun r_3 u H locs h hP hD hS => ?_)
    try dsimp only at h
    have hP : va_P D vwCl [zM am f, zA (kk 1) (am 1) 252 st] H := hP
    have hD : va_D A [zM am f, zA (kk 1) (am 1) 252 st] := hD
    refine lv_if_ne (tgt := 24) hx hb dX7_swap_19 (by decide) (fun c_4 => ?_) (fun c_4 => ?_)
    · have h := h.2 c_4
      refine lv_aload_n hx hb dX7_swap_24 rfl (lv_at hl 0 rfl) ?_
      refine lv_iconst (v := (0 : Int32)) hx hb dX7_swap_25 (by decide) ?_
      refine lv_iload_n hx hb dX7_swap_26 rfl (lv_at hl 1 rfl) ?_
      have hrc := va_recv hK hP (ci := 7) (q0 := 0) rfl rfl
      refine zc_i (wc := [zM am f, zA (kk 1) (am 1) 252 st]) (wr := []) (w1 := (fun u : (Nat → Int32) × (Nat → Int32) => [zM am u.1, zA (kk 1) (am 1) 252 u.2])) (rest := []) [0, 1] [] rfl rfl (by decide) (by decide) (by decide) hA hP hD hS (fun hP hD => va_runV (As := [.int (0 : Int32), .int p1]) (rest := []) ⟨hx, hb, hml, hown, hts⟩ (metX7_weeksGo l D kk am _ f st (0 : Int32) p1 _ h) (cwV 2 hts (lw_V q1185 q1187 qs56 q71 q1188) rfl rfl rfl pdX7_weeksGo ⟨(Nat.le_of_ble_eq_true rfl), (Nat.le_of_ble_eq_true rfl)⟩) (zp_V hK hN hrc hP hD) rfl rfl hl.1 rfl (lv_room (Nat.le_of_ble_eq_true rfl)) dX7_swap_27 ⟨(Nat.le_of_ble_eq_true rfl), (Nat.le_of_ble_eq_true rfl)⟩) (fun r_5 u H locs h hP hD hS => ?_)
      obtain ⟨f_6, st_7⟩ := u
      try dsimp only at h
      have hP : va_P D vwCl [zM am f_6, zA (kk 1) (am 1) 252 st_7] H := hP
      have hD : va_D A [zM am f_6, zA (kk 1) (am 1) 252 st_7] := hD
      refine lv_istore_n (lv' := [(3, .int r_5), (0, .ref (am 0)), (1, .int p1), (2, .int p2)]) hx hb dX7_swap_30 rfl hl (by decide) rfl (fun ls hl => ?_)
      refine lv_bipush (v := (-4 : Int32)) hx hb dX7_swap_31 (by decide) ?_
      refine lv_istore (lv' := [(4, .int (-4 : Int32)), (3, .int r_5), (0, .ref (am 0)), (1, .int p1), (2, .int p2)]) hx hb dX7_swap_33 hl (by decide) rfl (fun ls hl => ?_)
      refine lv_iconst (v := (0 : Int32)) hx hb dX7_swap_35 (by decide) ?_
      have cut_38 : ∀ (nl38 : Nat) (f : Nat → Int32) (st : Nat → Int32) (x3 : Int32) (x4 : Int32) (x5 : Int32), wpX7_swap_38 p1 p2 Q  nl38 f st x3 x4 x5 → ∀ (H : Heap) (locs : List Loc), va_P D vwCl [zM am f, zA (kk 1) (am 1) 252 st] H → va_D A [zM am f, zA (kk 1) (am 1) 252 st] → va_S A s.heap H locs → ∀ ls : Array Slot, lv_has ls 8 [(3, .int x3), (4, .int x4), (5, .int x5), (0, .ref (am 0)), (1, .int p1), (2, .int p2)] → W p l e { frames := 5, cells := 0, slots := 0, locals := 122 } s m ([.ref (am 0), .int p1, .int p2] : List Value).toArray below meth c H locs 0 0 (MQ below (va_Qi (fun (r : Int32) (u : (Nat → Int32) × (Nat → Int32)) => Q r u.1 u.2) (zB D A (fun u : (Nat → Int32) × (Nat → Int32) => [zM am u.1, zA (kk 1) (am 1) 252 u.2])) A) ([.ref (am 0), .int p1, .int p2] : List Value).toArray s 0 0 A) (F0 m 38 ls []) := by
        intro nl38
        induction nl38 with
        | zero => intro f st x3 x4 x5 h; exact absurd h id
        | succ nl38 ih_38 =>
          intro f st x3 x4 x5 h H locs hP hD hS ls hl
          have h : wbX7_swap_38 p1 p2 Q  (wpX7_swap_38 p1 p2 Q  nl38) f st x3 x4 x5 := h
          unfold wbX7_swap_38 at h
          refine lv_iload hx hb dX7_swap_38 (lv_at hl 2 rfl) ?_
          refine lv_aload_n hx hb dX7_swap_40 rfl (lv_at hl 3 rfl) ?_
          refine va_get (D := D) (ci := 7) (v := .ref (am 1)) (C := RX7) (T := TX7) (N := 29) hx hb hts in_X7 hown hK hP 0 rfl rfl 0 (Nat.le_of_ble_eq_true rfl) (hts _ q939) (fun _ h9 => h9) rfl dX7_swap_41 ?_
          refine lv_bipush (v := (40 : Int32)) hx hb dX7_swap_44 (by decide) ?_
          refine va_iald hx hb hK hP 1 1 rfl rfl (by unfold vp_in; decide) dX7_swap_46 ?_
          refine lv_icmp_ge (tgt := 216) hx hb dX7_swap_47 (by decide) (fun c_8 => ?_) (fun c_8 => ?_)
          · have h := h.1 c_8
            refine lv_iload hx hb dX7_swap_216 (lv_at hl 1 rfl) ?_
            refine lv_bipush (v := (-4 : Int32)) hx hb dX7_swap_218 (by decide) ?_
            have cut_227 : ∀ (f : Nat → Int32) (st : Nat → Int32) (x4 : Int32), wpX7_swap_227 p1 p2 Q (wpX7_swap_38 p1 p2 Q  nl38) f st x4 → ∀ (H : Heap) (locs : List Loc), va_P D vwCl [zM am f, zA (kk 1) (am 1) 252 st] H → va_D A [zM am f, zA (kk 1) (am 1) 252 st] → va_S A s.heap H locs → ∀ ls : Array Slot, lv_has ls 8 [(4, .int x4)] → W p l e { frames := 5, cells := 0, slots := 0, locals := 122 } s m ([.ref (am 0), .int p1, .int p2] : List Value).toArray below meth c H locs 0 0 (MQ below (va_Qi (fun (r : Int32) (u : (Nat → Int32) × (Nat → Int32)) => Q r u.1 u.2) (zB D A (fun u : (Nat → Int32) × (Nat → Int32) => [zM am u.1, zA (kk 1) (am 1) 252 u.2])) A) ([.ref (am 0), .int p1, .int p2] : List Value).toArray s 0 0 A) (F0 m 227 ls []) := by
              intro f st x4 h H locs hP hD hS ls hl
              unfold wpX7_swap_227 at h
              refine lv_iload hx hb dX7_swap_227 (lv_at hl 0 rfl) ?_
              refine lv_goto (tgt := 233) hx hb dX7_swap_229 (by decide) ?_
              exact zr_i hx hb hr hlk rfl hP hD hS (f, st) [0, 1] rfl (by decide) dX7_swap_233 h
            refine lv_icmp_eq (tgt := 227) hx hb dX7_swap_220 (by decide) (fun c_9 => ?_) (fun c_9 => ?_)
            · have h := h.1 c_9
              exact cut_227 f st x4 h _ _ hP hD hS _ (lv_sub hl [1] rfl)
            · have h := h.2 c_9
              refine lv_iload_n hx hb dX7_swap_223 rfl (lv_at hl 5 rfl) ?_
              refine lv_if_ne (tgt := 232) hx hb dX7_swap_224 (by decide) (fun c_10 => ?_) (fun c_10 => ?_)
              · have h := h.2 c_10
                refine lv_iload_n hx hb dX7_swap_232 rfl (lv_at hl 0 rfl) ?_
                exact zr_i hx hb hr hlk rfl hP hD hS (f, st) [0, 1] rfl (by decide) dX7_swap_233 h
              · have h := h.1 c_10
                exact cut_227 f st x4 h _ _ hP hD hS _ (lv_sub hl [1] rfl)
          · have h := h.2 c_8
            refine lv_iload hx hb dX7_swap_50 (lv_at hl 2 rfl) ?_
            refine lv_iconst (v := (1 : Int32)) hx hb dX7_swap_52 (by decide) ?_
            refine lv_iadd hx hb dX7_swap_53 ?_
            have cut_56 : ∀ (nl56 : Nat) (f : Nat → Int32) (st : Nat → Int32) (x3 : Int32) (x4 : Int32) (x5 : Int32) (x6 : Int32), wpX7_swap_56 p1 p2 Q (wpX7_swap_38 p1 p2 Q  nl38) nl56 f st x3 x4 x5 x6 → ∀ (H : Heap) (locs : List Loc), va_P D vwCl [zM am f, zA (kk 1) (am 1) 252 st] H → va_D A [zM am f, zA (kk 1) (am 1) 252 st] → va_S A s.heap H locs → ∀ ls : Array Slot, lv_has ls 8 [(3, .int x3), (4, .int x4), (5, .int x5), (6, .int x6), (0, .ref (am 0)), (1, .int p1), (2, .int p2)] → W p l e { frames := 5, cells := 0, slots := 0, locals := 122 } s m ([.ref (am 0), .int p1, .int p2] : List Value).toArray below meth c H locs 0 0 (MQ below (va_Qi (fun (r : Int32) (u : (Nat → Int32) × (Nat → Int32)) => Q r u.1 u.2) (zB D A (fun u : (Nat → Int32) × (Nat → Int32) => [zM am u.1, zA (kk 1) (am 1) 252 u.2])) A) ([.ref (am 0), .int p1, .int p2] : List Value).toArray s 0 0 A) (F0 m 56 ls []) := by
              intro nl56
              induction nl56 with
              | zero => intro f st x3 x4 x5 x6 h; exact absurd h id
              | succ nl56 ih_56 =>
                intro f st x3 x4 x5 x6 h H locs hP hD hS ls hl
                have h : wbX7_swap_56 p1 p2 Q (wpX7_swap_38 p1 p2 Q  nl38) (wpX7_swap_56 p1 p2 Q (wpX7_swap_38 p1 p2 Q  nl38) nl56) f st x3 x4 x5 x6 := h
                unfold wbX7_swap_56 at h
                refine lv_iload hx hb dX7_swap_56 (lv_at hl 3 rfl) ?_
                refine lv_aload_n hx hb dX7_swap_58 rfl (lv_at hl 4 rfl) ?_
                refine va_get (D := D) (ci := 7) (v := .ref (am 1)) (C := RX7) (T := TX7) (N := 29) hx hb hts in_X7 hown hK hP 0 rfl rfl 0 (Nat.le_of_ble_eq_true rfl) (hts _ q939) (fun _ h9 => h9) rfl dX7_swap_59 ?_
                refine lv_bipush (v := (40 : Int32)) hx hb dX7_swap_62 (by decide) ?_
                refine va_iald hx hb hK hP 1 1 rfl rfl (by unfold vp_in; decide) dX7_swap_64 ?_
                refine lv_icmp_ge (tgt := 210) hx hb dX7_swap_65 (by decide) (fun c_11 => ?_) (fun c_11 => ?_)
                · have h := h.1 c_11
                  refine lv_iinc (v := (x5 + 1)) (lv' := [(5, .int (x5 + 1)), (3, .int x3), (4, .int x4), (6, .int x6), (0, .ref (am 0)), (1, .int p1), (2, .int p2)]) hx hb dX7_swap_210 hl (k := 2) rfl rfl (by decide) rfl (fun ls hl => ?_)
                  refine lv_goto (tgt := 38) hx hb dX7_swap_213 (by decide) ?_
                  exact ih_38 f st x3 x4 (x5 + 1) h _ _ hP hD hS _ (lv_sub hl [1, 2, 0, 4, 5, 6] rfl)
                · have h := h.2 c_11
                  refine lv_aload_n hx hb dX7_swap_68 rfl (lv_at hl 4 rfl) ?_
                  refine lv_iconst (v := (0 : Int32)) hx hb dX7_swap_69 (by decide) ?_
                  refine lv_sipush (v := (210 : Int32)) hx hb dX7_swap_70 (by decide) ?_
                  have hrc := va_recv hK hP (ci := 7) (q0 := 0) rfl rfl
                  refine zc_v (wc := [zM am f, zA (kk 1) (am 1) 252 st]) (wr := []) (w1 := (fun u : (Nat → Int32) => [zM am f, zA (kk 1) (am 1) 252 u])) (rest := []) [0, 1] [] rfl rfl (by decide) (by decide) (by decide) hA hP hD hS (fun hP hD => va_runV (As := [.int (0 : Int32), .int (210 : Int32)]) (rest := []) ⟨hx, hb, hml, hown, hts⟩ (metX7_copies l D kk am _ f st (0 : Int32) (210 : Int32) _ h) (cwV 2 hts (lw_V q1189 q1191 qs57 q71 q1192) rfl rfl rfl pdX7_copies ⟨(Nat.le_of_ble_eq_true rfl), (Nat.le_of_ble_eq_true rfl)⟩) (zp_V hK hN hrc hP hD) rfl rfl hl.1 rfl (lv_room (Nat.le_of_ble_eq_true rfl)) dX7_swap_73 ⟨(Nat.le_of_ble_eq_true rfl), (Nat.le_of_ble_eq_true rfl)⟩) (fun u H locs h hP hD hS => ?_)
                  obtain ⟨st_13, rfl⟩ : ∃ z, z = u := ⟨_, rfl⟩
                  try dsimp only at h
                  have hP : va_P D vwCl [zM am f, zA (kk 1) (am 1) 252 st_13] H := hP
                  have hD : va_D A [zM am f, zA (kk 1) (am 1) 252 st_13] := hD
                  refine lv_aload_n hx hb dX7_swap_76 rfl (lv_at hl 4 rfl) ?_
                  refine va_get (D := D) (ci := 7) (v := .ref (am 1)) (C := RX7) (T := TX7) (N := 29) hx hb hts in_X7 hown hK hP 0 rfl rfl 0 (Nat.le_of_ble_eq_true rfl) (hts _ q939) (fun _ h9 => h9) rfl dX7_swap_77 ?_
                  refine lv_sipush (v := (230 : Int32)) hx hb dX7_swap_80 (by decide) ?_
                  refine lv_iload hx hb dX7_swap_83 (lv_at hl 2 rfl) ?_
                  refine lv_iadd hx hb dX7_swap_85 ?_
                  refine lv_aload_n hx hb dX7_swap_86 rfl (lv_at hl 4 rfl) ?_
                  refine va_get (D := D) (ci := 7) (v := .ref (am 1)) (C := RX7) (T := TX7) (N := 29) hx hb hts in_X7 hown hK hP 0 rfl rfl 0 (Nat.le_of_ble_eq_true rfl) (hts _ q939) (fun _ h9 => h9) rfl dX7_swap_87 ?_
                  refine lv_bipush (v := (20 : Int32)) hx hb dX7_swap_90 (by decide) ?_
                  refine lv_iload hx hb dX7_swap_92 (lv_at hl 3 rfl) ?_
                  refine lv_iadd hx hb dX7_swap_94 ?_
                  obtain ⟨hin, h⟩ := h
                  refine va_iald hx hb hK hP 1 1 rfl rfl hin dX7_swap_95 ?_
                  refine lv_topi (fun v_14 ev_14 => ?_)
                  have h := h v_14 ev_14
                  obtain ⟨hin, h⟩ := h
                  refine va_iast hx hb hK hP hD hS 1 1 rfl rfl hin dX7_swap_96 (fun H locs hP hD hS => ?_)
                  have hP : va_P D vwCl [zM am f, zA (kk 1) (am 1) 252 (upd st_13 ((230 : Int32) + x5).toNatClampNeg v_14)] H := hP
                  have hD : va_D A [zM am f, zA (kk 1) (am 1) 252 (upd st_13 ((230 : Int32) + x5).toNatClampNeg v_14)] := hD
                  refine lv_aload_n hx hb dX7_swap_97 rfl (lv_at hl 4 rfl) ?_
                  refine va_get (D := D) (ci := 7) (v := .ref (am 1)) (C := RX7) (T := TX7) (N := 29) hx hb hts in_X7 hown hK hP 0 rfl rfl 0 (Nat.le_of_ble_eq_true rfl) (hts _ q939) (fun _ h9 => h9) rfl dX7_swap_98 ?_
                  refine lv_sipush (v := (240 : Int32)) hx hb dX7_swap_101 (by decide) ?_
                  refine lv_iload hx hb dX7_swap_104 (lv_at hl 2 rfl) ?_
                  refine lv_iadd hx hb dX7_swap_106 ?_
                  refine lv_aload_n hx hb dX7_swap_107 rfl (lv_at hl 4 rfl) ?_
                  refine va_get (D := D) (ci := 7) (v := .ref (am 1)) (C := RX7) (T := TX7) (N := 29) hx hb hts in_X7 hown hK hP 0 rfl rfl 0 (Nat.le_of_ble_eq_true rfl) (hts _ q939) (fun _ h9 => h9) rfl dX7_swap_108 ?_
                  refine lv_bipush (v := (30 : Int32)) hx hb dX7_swap_111 (by decide) ?_
                  refine lv_iload hx hb dX7_swap_113 (lv_at hl 3 rfl) ?_
                  refine lv_iadd hx hb dX7_swap_115 ?_
                  obtain ⟨hin, h⟩ := h
                  refine va_iald hx hb hK hP 1 1 rfl rfl hin dX7_swap_116 ?_
                  refine lv_topi (fun v_15 ev_15 => ?_)
                  have h := h v_15 ev_15
                  obtain ⟨hin, h⟩ := h
                  refine va_iast hx hb hK hP hD hS 1 1 rfl rfl hin dX7_swap_117 (fun H locs hP hD hS => ?_)
                  have hP : va_P D vwCl [zM am f, zA (kk 1) (am 1) 252 (upd (upd st_13 ((230 : Int32) + x5).toNatClampNeg v_14) ((240 : Int32) + x5).toNatClampNeg v_15)] H := hP
                  have hD : va_D A [zM am f, zA (kk 1) (am 1) 252 (upd (upd st_13 ((230 : Int32) + x5).toNatClampNeg v_14) ((240 : Int32) + x5).toNatClampNeg v_15)] := hD
                  refine lv_aload_n hx hb dX7_swap_118 rfl (lv_at hl 4 rfl) ?_
                  refine va_get (D := D) (ci := 7) (v := .ref (am 1)) (C := RX7) (T := TX7) (N := 29) hx hb hts in_X7 hown hK hP 0 rfl rfl 0 (Nat.le_of_ble_eq_true rfl) (hts _ q939) (fun _ h9 => h9) rfl dX7_swap_119 ?_
                  refine lv_sipush (v := (230 : Int32)) hx hb dX7_swap_122 (by decide) ?_
                  refine lv_iload hx hb dX7_swap_125 (lv_at hl 3 rfl) ?_
                  refine lv_iadd hx hb dX7_swap_127 ?_
                  refine lv_aload_n hx hb dX7_swap_128 rfl (lv_at hl 4 rfl) ?_
                  refine va_get (D := D) (ci := 7) (v := .ref (am 1)) (C := RX7) (T := TX7) (N := 29) hx hb hts in_X7 hown hK hP 0 rfl rfl 0 (Nat.le_of_ble_eq_true rfl) (hts _ q939) (fun _ h9 => h9) rfl dX7_swap_129 ?_
                  refine lv_bipush (v := (20 : Int32)) hx hb dX7_swap_132 (by decide) ?_
                  refine lv_iload hx hb dX7_swap_134 (lv_at hl 2 rfl) ?_
                  refine lv_iadd hx hb dX7_swap_136 ?_
                  obtain ⟨hin, h⟩ := h
                  refine va_iald hx hb hK hP 1 1 rfl rfl hin dX7_swap_137 ?_
                  refine lv_topi (fun v_16 ev_16 => ?_)
                  have h := h v_16 ev_16
                  obtain ⟨hin, h⟩ := h
                  refine va_iast hx hb hK hP hD hS 1 1 rfl rfl hin dX7_swap_138 (fun H locs hP hD hS => ?_)
                  have hP : va_P D vwCl [zM am f, zA (kk 1) (am 1) 252 (upd (upd (upd st_13 ((230 : Int32) + x5).toNatClampNeg v_14) ((240 : Int32) + x5).toNatClampNeg v_15) ((230 : Int32) + x6).toNatClampNeg v_16)] H := hP
                  have hD : va_D A [zM am f, zA (kk 1) (am 1) 252 (upd (upd (upd st_13 ((230 : Int32) + x5).toNatClampNeg v_14) ((240 : Int32) + x5).toNatClampNeg v_15) ((230 : Int32) + x6).toNatClampNeg v_16)] := hD
                  refine lv_aload_n hx hb dX7_swap_139 rfl (lv_at hl 4 rfl) ?_
                  refine va_get (D := D) (ci := 7) (v := .ref (am 1)) (C := RX7) (T := TX7) (N := 29) hx hb hts in_X7 hown hK hP 0 rfl rfl 0 (Nat.le_of_ble_eq_true rfl) (hts _ q939) (fun _ h9 => h9) rfl dX7_swap_140 ?_
                  refine lv_sipush (v := (240 : Int32)) hx hb dX7_swap_143 (by decide) ?_
                  refine lv_iload hx hb dX7_swap_146 (lv_at hl 3 rfl) ?_
                  refine lv_iadd hx hb dX7_swap_148 ?_
                  refine lv_aload_n hx hb dX7_swap_149 rfl (lv_at hl 4 rfl) ?_
                  refine va_get (D := D) (ci := 7) (v := .ref (am 1)) (C := RX7) (T := TX7) (N := 29) hx hb hts in_X7 hown hK hP 0 rfl rfl 0 (Nat.le_of_ble_eq_true rfl) (hts _ q939) (fun _ h9 => h9) rfl dX7_swap_150 ?_
                  refine lv_bipush (v := (30 : Int32)) hx hb dX7_swap_153 (by decide) ?_
                  refine lv_iload hx hb dX7_swap_155 (lv_at hl 2 rfl) ?_
                  refine lv_iadd hx hb dX7_swap_157 ?_
                  obtain ⟨hin, h⟩ := h
                  refine va_iald hx hb hK hP 1 1 rfl rfl hin dX7_swap_158 ?_
                  refine lv_topi (fun v_17 ev_17 => ?_)
                  have h := h v_17 ev_17
                  obtain ⟨hin, h⟩ := h
                  refine va_iast hx hb hK hP hD hS 1 1 rfl rfl hin dX7_swap_159 (fun H locs hP hD hS => ?_)
                  have hP : va_P D vwCl [zM am f, zA (kk 1) (am 1) 252 (upd (upd (upd (upd st_13 ((230 : Int32) + x5).toNatClampNeg v_14) ((240 : Int32) + x5).toNatClampNeg v_15) ((230 : Int32) + x6).toNatClampNeg v_16) ((240 : Int32) + x6).toNatClampNeg v_17)] H := hP
                  have hD : va_D A [zM am f, zA (kk 1) (am 1) 252 (upd (upd (upd (upd st_13 ((230 : Int32) + x5).toNatClampNeg v_14) ((240 : Int32) + x5).toNatClampNeg v_15) ((230 : Int32) + x6).toNatClampNeg v_16) ((240 : Int32) + x6).toNatClampNeg v_17)] := hD
                  refine lv_aload_n hx hb dX7_swap_160 rfl (lv_at hl 4 rfl) ?_
                  refine lv_sipush (v := (210 : Int32)) hx hb dX7_swap_161 (by decide) ?_
                  refine lv_iload_n hx hb dX7_swap_164 rfl (lv_at hl 5 rfl) ?_
                  have hrc := va_recv hK hP (ci := 7) (q0 := 0) rfl rfl
                  refine zc_i (wc := [zM am f, zA (kk 1) (am 1) 252 (upd (upd (upd (upd st_13 ((230 : Int32) + x5).toNatClampNeg v_14) ((240 : Int32) + x5).toNatClampNeg v_15) ((230 : Int32) + x6).toNatClampNeg v_16) ((240 : Int32) + x6).toNatClampNeg v_17)]) (wr := []) (w1 := (fun u : (Nat → Int32) × (Nat → Int32) => [zM am u.1, zA (kk 1) (am 1) 252 u.2])) (rest := []) [0, 1] [] rfl rfl (by decide) (by decide) (by decide) hA hP hD hS (fun hP hD => va_runV (As := [.int (210 : Int32), .int p1]) (rest := []) ⟨hx, hb, hml, hown, hts⟩ (metX7_weeksGo l D kk am _ f (upd (upd (upd (upd st_13 ((230 : Int32) + x5).toNatClampNeg v_14) ((240 : Int32) + x5).toNatClampNeg v_15) ((230 : Int32) + x6).toNatClampNeg v_16) ((240 : Int32) + x6).toNatClampNeg v_17) (210 : Int32) p1 _ h) (cwV 2 hts (lw_V q1185 q1187 qs56 q71 q1188) rfl rfl rfl pdX7_weeksGo ⟨(Nat.le_of_ble_eq_true rfl), (Nat.le_of_ble_eq_true rfl)⟩) (zp_V hK hN hrc hP hD) rfl rfl hl.1 rfl (lv_room (Nat.le_of_ble_eq_true rfl)) dX7_swap_165 ⟨(Nat.le_of_ble_eq_true rfl), (Nat.le_of_ble_eq_true rfl)⟩) (fun r_18 u H locs h hP hD hS => ?_)
                  obtain ⟨f_19, st_20⟩ := u
                  try dsimp only at h
                  have hP : va_P D vwCl [zM am f_19, zA (kk 1) (am 1) 252 st_20] H := hP
                  have hD : va_D A [zM am f_19, zA (kk 1) (am 1) 252 st_20] := hD
                  refine lv_istore (lv' := [(7, .int r_18), (3, .int x3), (4, .int x4), (5, .int x5), (6, .int x6), (0, .ref (am 0)), (1, .int p1), (2, .int p2)]) hx hb dX7_swap_168 hl (by decide) rfl (fun ls hl => ?_)
                  refine lv_iload hx hb dX7_swap_170 (lv_at hl 0 rfl) ?_
                  refine lv_iload_n hx hb dX7_swap_172 rfl (lv_at hl 1 rfl) ?_
                  have cut_189 : ∀ (f : Nat → Int32) (st : Nat → Int32) (x3 : Int32) (x5 : Int32) (x6 : Int32) (x7 : Int32) (s0 : Int32), wpX7_swap_189 p1 p2 Q (wpX7_swap_38 p1 p2 Q  nl38) (wpX7_swap_56 p1 p2 Q (wpX7_swap_38 p1 p2 Q  nl38) nl56) f st x3 x5 x6 x7 s0 → ∀ (H : Heap) (locs : List Loc), va_P D vwCl [zM am f, zA (kk 1) (am 1) 252 st] H → va_D A [zM am f, zA (kk 1) (am 1) 252 st] → va_S A s.heap H locs → ∀ ls : Array Slot, lv_has ls 8 [(3, .int x3), (5, .int x5), (6, .int x6), (7, .int x7), (0, .ref (am 0)), (1, .int p1), (2, .int p2)] → W p l e { frames := 5, cells := 0, slots := 0, locals := 122 } s m ([.ref (am 0), .int p1, .int p2] : List Value).toArray below meth c H locs 0 0 (MQ below (va_Qi (fun (r : Int32) (u : (Nat → Int32) × (Nat → Int32)) => Q r u.1 u.2) (zB D A (fun u : (Nat → Int32) × (Nat → Int32) => [zM am u.1, zA (kk 1) (am 1) 252 u.2])) A) ([.ref (am 0), .int p1, .int p2] : List Value).toArray s 0 0 A) (F0 m 189 ls [.int s0]) := by
                    intro f st x3 x5 x6 x7 s0 h H locs hP hD hS ls hl
                    unfold wpX7_swap_189 at h
                    refine lv_istore (lv' := [(4, .int s0), (3, .int x3), (5, .int x5), (6, .int x6), (7, .int x7), (0, .ref (am 0)), (1, .int p1), (2, .int p2)]) hx hb dX7_swap_189 hl (by decide) rfl (fun ls hl => ?_)
                    refine lv_iload hx hb dX7_swap_191 (lv_at hl 4 rfl) ?_
                    refine lv_iload_n hx hb dX7_swap_193 rfl (lv_at hl 1 rfl) ?_
                    have cut_203 : ∀ (f : Nat → Int32) (st : Nat → Int32) (x4 : Int32) (x5 : Int32) (x6 : Int32) (s0 : Int32), wpX7_swap_203 p1 p2 Q (wpX7_swap_38 p1 p2 Q  nl38) (wpX7_swap_56 p1 p2 Q (wpX7_swap_38 p1 p2 Q  nl38) nl56) f st x4 x5 x6 s0 → ∀ (H : Heap) (locs : List Loc), va_P D vwCl [zM am f, zA (kk 1) (am 1) 252 st] H → va_D A [zM am f, zA (kk 1) (am 1) 252 st] → va_S A s.heap H locs → ∀ ls : Array Slot, lv_has ls 8 [(4, .int x4), (5, .int x5), (6, .int x6), (0, .ref (am 0)), (1, .int p1), (2, .int p2)] → W p l e { frames := 5, cells := 0, slots := 0, locals := 122 } s m ([.ref (am 0), .int p1, .int p2] : List Value).toArray below meth c H locs 0 0 (MQ below (va_Qi (fun (r : Int32) (u : (Nat → Int32) × (Nat → Int32)) => Q r u.1 u.2) (zB D A (fun u : (Nat → Int32) × (Nat → Int32) => [zM am u.1, zA (kk 1) (am 1) 252 u.2])) A) ([.ref (am 0), .int p1, .int p2] : List Value).toArray s 0 0 A) (F0 m 203 ls [.int s0]) := by
                      intro f st x4 x5 x6 s0 h H locs hP hD hS ls hl
                      unfold wpX7_swap_203 at h
                      refine lv_istore_n (lv' := [(3, .int s0), (4, .int x4), (5, .int x5), (6, .int x6), (0, .ref (am 0)), (1, .int p1), (2, .int p2)]) hx hb dX7_swap_203 rfl hl (by decide) rfl (fun ls hl => ?_)
                      refine lv_iinc (v := (x6 + 1)) (lv' := [(6, .int (x6 + 1)), (3, .int s0), (4, .int x4), (5, .int x5), (0, .ref (am 0)), (1, .int p1), (2, .int p2)]) hx hb dX7_swap_204 hl (k := 3) rfl rfl (by decide) rfl (fun ls hl => ?_)
                      refine lv_goto (tgt := 56) hx hb dX7_swap_207 (by decide) ?_
                      exact ih_56 f st s0 x4 x5 (x6 + 1) h _ _ hP hD hS _ (lv_sub hl [1, 2, 3, 0, 4, 5, 6] rfl)
                    refine lv_icmp_ge (tgt := 202) hx hb dX7_swap_194 (by decide) (fun c_21 => ?_) (fun c_21 => ?_)
                    · have h := h.1 c_21
                      refine lv_iload_n hx hb dX7_swap_202 rfl (lv_at hl 1 rfl) ?_
                      exact cut_203 f st s0 x5 x6 x3 h _ _ hP hD hS _ (lv_sub hl [0, 2, 3, 5, 6, 7] rfl)
                    · have h := h.2 c_21
                      refine lv_iload hx hb dX7_swap_197 (lv_at hl 4 rfl) ?_
                      refine lv_goto (tgt := 203) hx hb dX7_swap_199 (by decide) ?_
                      exact cut_203 f st s0 x5 x6 x7 h _ _ hP hD hS _ (lv_sub hl [0, 2, 3, 5, 6, 7] rfl)
                  refine lv_icmp_ge (tgt := 187) hx hb dX7_swap_173 (by decide) (fun c_22 => ?_) (fun c_22 => ?_)
                  · have h := h.1 c_22
                    refine lv_iload hx hb dX7_swap_187 (lv_at hl 2 rfl) ?_
                    exact cut_189 f_19 st_20 x3 x5 x6 r_18 x4 h _ _ hP hD hS _ (lv_sub hl [1, 3, 4, 0, 5, 6, 7] rfl)
                  · have h := h.2 c_22
                    refine lv_bipush (v := (10 : Int32)) hx hb dX7_swap_176 (by decide) ?_
                    refine lv_iload hx hb dX7_swap_178 (lv_at hl 3 rfl) ?_
                    refine lv_imul hx hb dX7_swap_180 ?_
                    refine lv_iload hx hb dX7_swap_181 (lv_at hl 4 rfl) ?_
                    refine lv_iadd hx hb dX7_swap_183 ?_
                    refine lv_goto (tgt := 189) hx hb dX7_swap_184 (by decide) ?_
                    exact cut_189 f_19 st_20 x3 x5 x6 r_18 (((10 : Int32) * x5) + x6) h _ _ hP hD hS _ (lv_sub hl [1, 3, 4, 0, 5, 6, 7] rfl)
            refine lv_istore (lv' := [(6, .int (x5 + (1 : Int32))), (3, .int x3), (4, .int x4), (5, .int x5), (0, .ref (am 0)), (1, .int p1), (2, .int p2)]) hx hb dX7_swap_54 hl (by decide) rfl (fun ls hl => ?_)
            obtain ⟨n_56, h⟩ := h
            exact cut_56 n_56 f st x3 x4 x5 (x5 + (1 : Int32)) h _ _ hP hD hS _ (lv_sub hl [1, 2, 3, 0, 4, 5, 6] rfl)
      refine lv_istore (lv' := [(5, .int (0 : Int32)), (4, .int (-4 : Int32)), (3, .int r_5), (0, .ref (am 0)), (1, .int p1), (2, .int p2)]) hx hb dX7_swap_36 hl (by decide) rfl (fun ls hl => ?_)
      obtain ⟨n_38, h⟩ := h
      exact cut_38 n_38 f_6 st_7 r_5 (-4 : Int32) (0 : Int32) h _ _ hP hD hS _ (lv_sub hl [2, 1, 0, 3, 4, 5] rfl)
    · have h := h.1 c_4
      refine lv_iconst (v := (-1 : Int32)) hx hb dX7_swap_22 (by decide) ?_
      exact zr_i hx hb hr hlk rfl hP hD hS (f, st) [0, 1] rfl (by decide) dX7_swap_23 h
def wpX7_skip_115 (p1 : Int32) (p2 : Int32) (Q : Int32 → (Nat → Int32) → (Nat → Int32) → Prop) (k38 : (Nat → Int32) → (Nat → Int32) → Int32 → Int32 → Int32 → Prop) (f : Nat → Int32) (st : Nat → Int32) (x4 : Int32) : Prop :=
  Q x4 f st
def wpX7_skip_97 (p1 : Int32) (p2 : Int32) (Q : Int32 → (Nat → Int32) → (Nat → Int32) → Prop) (k38 : (Nat → Int32) → (Nat → Int32) → Int32 → Int32 → Int32 → Prop) (f : Nat → Int32) (st : Nat → Int32) (x4 : Int32) (x5 : Int32) (s0 : Int32) : Prop :=
  k38 f st s0 x4 (x5 + 1)
def wpX7_skip_83 (p1 : Int32) (p2 : Int32) (Q : Int32 → (Nat → Int32) → (Nat → Int32) → Prop) (k38 : (Nat → Int32) → (Nat → Int32) → Int32 → Int32 → Int32 → Prop) (f : Nat → Int32) (st : Nat → Int32) (x3 : Int32) (x5 : Int32) (x6 : Int32) (s0 : Int32) : Prop :=
  ((x3 ≤ x6 → wpX7_skip_97 p1 p2 Q k38 f st s0 x5 x3) ∧ (¬ x3 ≤ x6 → wpX7_skip_97 p1 p2 Q k38 f st s0 x5 x6))
def wbX7_skip_38 (p1 : Int32) (p2 : Int32) (Q : Int32 → (Nat → Int32) → (Nat → Int32) → Prop) (k38 : (Nat → Int32) → (Nat → Int32) → Int32 → Int32 → Int32 → Prop) (f : Nat → Int32) (st : Nat → Int32) (x3 : Int32) (x4 : Int32) (x5 : Int32) : Prop :=
  (((st (40 : Int32).toNatClampNeg) ≤ x5 → ((x4 = (-4 : Int32) → wpX7_skip_115 p1 p2 Q k38 f st x4) ∧ (¬ x4 = (-4 : Int32) → ((p2 = 0 → wpX7_skip_115 p1 p2 Q k38 f st x4) ∧ (¬ p2 = 0 → Q x3 f st))))) ∧ (¬ (st (40 : Int32).toNatClampNeg) ≤ x5 → (wpX7_weeksGo (upd f 19 x5) st (0 : Int32) p1 (fun r_11 f_12 st_13 => ((x3 ≤ r_11 → wpX7_skip_83 p1 p2 Q k38 (upd f_12 19 (-4 : Int32)) st_13 x3 x5 r_11 x4) ∧ (¬ x3 ≤ r_11 → wpX7_skip_83 p1 p2 Q k38 (upd f_12 19 (-4 : Int32)) st_13 x3 x5 r_11 x5))))))
def wpX7_skip_38 (p1 : Int32) (p2 : Int32) (Q : Int32 → (Nat → Int32) → (Nat → Int32) → Prop) (n : Nat) : (Nat → Int32) → (Nat → Int32) → Int32 → Int32 → Int32 → Prop :=
  Nat.rec (motive := fun _ => (Nat → Int32) → (Nat → Int32) → Int32 → Int32 → Int32 → Prop) (fun _ _ _ _ _ => False) (fun _ k => wbX7_skip_38 p1 p2 Q  k) n
def wpX7_skip (f : Nat → Int32) (st : Nat → Int32) (p1 : Int32) (p2 : Int32) (Q : Int32 → (Nat → Int32) → (Nat → Int32) → Prop) : Prop :=
  (wpX7_in (p1.toInt64) (0 : Int64) (60 : Int64) (fun r_1 => ((r_1 = 0 → Q (-1 : Int32) f st) ∧ (¬ r_1 = 0 → (wpX7_in (p2.toInt64) (0 : Int64) (1 : Int64) (fun r_3 => ((r_3 = 0 → Q (-1 : Int32) f st) ∧ (¬ r_3 = 0 → (wpX7_weeksGo f st (0 : Int32) p1 (fun r_5 f_6 st_7 => (∃ n : Nat, wpX7_skip_38 p1 p2 Q  n f_6 st_7 r_5 (-4 : Int32) (0 : Int32))))))))))))
set_option maxHeartbeats 4000000 in
theorem metX7_skip (l : Launch) (D : va_G) (kk : Nat → ClassId) (am : Nat → Nat) (sz : Nat) (f : Nat → Int32) (st : Nat → Int32) (p1 : Int32) (p2 : Int32) (Q : Int32 → (Nat → Int32) → (Nat → Int32) → Prop) (h : wpX7_skip f st p1 p2 Q) : Met l yX7_skip (ws_ yX7_skip cX7_skip 7 (some .int)) { frames := 5, cells := 0, slots := 0, locals := 122 } (va_Pc ([.ref (am 0), .int p1, .int p2] : List Value) (zPc D kk [zM am f, zA (kk 1) (am 1) 252 st] sz)) (va_Qi (fun (r : Int32) (u : (Nat → Int32) × (Nat → Int32)) => Q r u.1 u.2) (zB D (va_A [zM am f, zA (kk 1) (am 1) 252 st] sz) (fun u : (Nat → Int32) × (Nat → Int32) => [zM am u.1, zA (kk 1) (am 1) 252 u.2])) (va_A [zM am f, zA (kk 1) (am 1) 252 st] sz)) 0 0 (va_A [zM am f, zA (kk 1) (am 1) 252 st] sz) := by
  refine zMet (Qc := fun A => va_Qi (fun (r : Int32) (u : (Nat → Int32) × (Nat → Int32)) => Q r u.1 u.2) (zB D A (fun u : (Nat → Int32) × (Nat → Int32) => [zM am u.1, zA (kk 1) (am 1) 252 u.2])) A) (by decide) (Nat.le_of_ble_eq_true rfl) ?_
  intro p e s m below meth c A X hP hD hS ls hl
  obtain ⟨hx, hb, hr, hml, hown, hts, hlk, hnm, hK, hN, hA⟩ := X
  have hown : s.vm.findClass "LoseLeagueModel" = some m.cls := hown
  have hl : lv_has ls 7 [(0, .ref (am 0)), (1, .int p1), (2, .int p2)] := hl
  unfold wpX7_skip at h
  refine lv_iload_n hx hb dX7_skip_0 rfl (lv_at hl 1 rfl) ?_
  refine lv_i2l hx hb dX7_skip_1 rfl ?_
  refine lv_lconst (v := (0 : Int64)) hx hb dX7_skip_2 (by decide) ?_
  refine lv_ldc2 (v := (60 : Int64)) hx hb hown (hts _ q1184) dX7_skip_3 ?_
  refine zc_i (wc := []) (wr := [zM am f, zA (kk 1) (am 1) 252 st]) (w1 := (fun u : Unit => [])) (rest := []) [] [0, 1] rfl rfl (by decide) (by decide) (by decide) hA hP hD hS (fun hP hD => va_runS (As := [.long (p1.toInt64), .long (0 : Int64), .long (60 : Int64)]) (rest := []) ⟨hx, hb, hml, hown, hts⟩ (metX7_in l D kk _ (p1.toInt64) (0 : Int64) (60 : Int64) _ h) (va_cwS 3 hts (lw_S q1033 q1034 q71 q1035) rfl rfl rfl pdX7_in.2 ⟨(Nat.le_of_ble_eq_true rfl), (Nat.le_of_ble_eq_true rfl)⟩) (zp_S hK hN hP hD) rfl rfl hl.1 rfl (lv_room (Nat.le_of_ble_eq_true rfl)) dX7_skip_6 ⟨(Nat.le_of_ble_eq_true rfl), (Nat.le_of_ble_eq_true rfl)⟩) (fun r_1 u H locs h hP hD hS => ?_)
  try dsimp only at h
  have hP : va_P D vwCl [zM am f, zA (kk 1) (am 1) 252 st] H := hP
  have hD : va_D A [zM am f, zA (kk 1) (am 1) 252 st] := hD
  refine lv_if_eq (tgt := 22) hx hb dX7_skip_9 (by decide) (fun c_2 => ?_) (fun c_2 => ?_)
  · have h := h.1 c_2
    refine lv_iconst (v := (-1 : Int32)) hx hb dX7_skip_22 (by decide) ?_
    exact zr_i hx hb hr hlk rfl hP hD hS (f, st) [0, 1] rfl (by decide) dX7_skip_23 h
  · have h := h.2 c_2
    refine lv_iload_n hx hb dX7_skip_12 rfl (lv_at hl 2 rfl) ?_
    refine lv_i2l hx hb dX7_skip_13 rfl ?_
    refine lv_lconst (v := (0 : Int64)) hx hb dX7_skip_14 (by decide) ?_
    refine lv_lconst (v := (1 : Int64)) hx hb dX7_skip_15 (by decide) ?_
    refine zc_i (wc := []) (wr := [zM am f, zA (kk 1) (am 1) 252 st]) (w1 := (fun u : Unit => [])) (rest := []) [] [0, 1] rfl rfl (by decide) (by decide) (by decide) hA hP hD hS (fun hP hD => va_runS (As := [.long (p2.toInt64), .long (0 : Int64), .long (1 : Int64)]) (rest := []) ⟨hx, hb, hml, hown, hts⟩ (metX7_in l D kk _ (p2.toInt64) (0 : Int64) (1 : Int64) _ h) (va_cwS 3 hts (lw_S q1033 q1034 q71 q1035) rfl rfl rfl pdX7_in.2 ⟨(Nat.le_of_ble_eq_true rfl), (Nat.le_of_ble_eq_true rfl)⟩) (zp_S hK hN hP hD) rfl rfl hl.1 rfl (lv_room (Nat.le_of_ble_eq_true rfl)) dX7_skip_16 ⟨(Nat.le_of_ble_eq_true rfl), (Nat.le_of_ble_eq_true rfl)⟩) (fun r_3 u H locs h hP hD hS => ?_)
    try dsimp only at h
    have hP : va_P D vwCl [zM am f, zA (kk 1) (am 1) 252 st] H := hP
    have hD : va_D A [zM am f, zA (kk 1) (am 1) 252 st] := hD
    refine lv_if_ne (tgt := 24) hx hb dX7_skip_19 (by decide) (fun c_4 => ?_) (fun c_4 => ?_)
    · have h := h.2 c_4
      refine lv_aload_n hx hb dX7_skip_24 rfl (lv_at hl 0 rfl) ?_
      refine lv_iconst (v := (0 : Int32)) hx hb dX7_skip_25 (by decide) ?_
      refine lv_iload_n hx hb dX7_skip_26 rfl (lv_at hl 1 rfl) ?_
      have hrc := va_recv hK hP (ci := 7) (q0 := 0) rfl rfl
      refine zc_i (wc := [zM am f, zA (kk 1) (am 1) 252 st]) (wr := []) (w1 := (fun u : (Nat → Int32) × (Nat → Int32) => [zM am u.1, zA (kk 1) (am 1) 252 u.2])) (rest := []) [0, 1] [] rfl rfl (by decide) (by decide) (by decide) hA hP hD hS (fun hP hD => va_runV (As := [.int (0 : Int32), .int p1]) (rest := []) ⟨hx, hb, hml, hown, hts⟩ (metX7_weeksGo l D kk am _ f st (0 : Int32) p1 _ h) (cwV 2 hts (lw_V q1185 q1187 qs56 q71 q1188) rfl rfl rfl pdX7_weeksGo ⟨(Nat.le_of_ble_eq_true rfl), (Nat.le_of_ble_eq_true rfl)⟩) (zp_V hK hN hrc hP hD) rfl rfl hl.1 rfl (lv_room (Nat.le_of_ble_eq_true rfl)) dX7_skip_27 ⟨(Nat.le_of_ble_eq_true rfl), (Nat.le_of_ble_eq_true rfl)⟩) (fun r_5 u H locs h hP hD hS => ?_)
      obtain ⟨f_6, st_7⟩ := u
      try dsimp only at h
      have hP : va_P D vwCl [zM am f_6, zA (kk 1) (am 1) 252 st_7] H := hP
      have hD : va_D A [zM am f_6, zA (kk 1) (am 1) 252 st_7] := hD
      refine lv_istore_n (lv' := [(3, .int r_5), (0, .ref (am 0)), (1, .int p1), (2, .int p2)]) hx hb dX7_skip_30 rfl hl (by decide) rfl (fun ls hl => ?_)
      refine lv_bipush (v := (-4 : Int32)) hx hb dX7_skip_31 (by decide) ?_
      refine lv_istore (lv' := [(4, .int (-4 : Int32)), (3, .int r_5), (0, .ref (am 0)), (1, .int p1), (2, .int p2)]) hx hb dX7_skip_33 hl (by decide) rfl (fun ls hl => ?_)
      refine lv_iconst (v := (0 : Int32)) hx hb dX7_skip_35 (by decide) ?_
      have cut_38 : ∀ (nl38 : Nat) (f : Nat → Int32) (st : Nat → Int32) (x3 : Int32) (x4 : Int32) (x5 : Int32), wpX7_skip_38 p1 p2 Q  nl38 f st x3 x4 x5 → ∀ (H : Heap) (locs : List Loc), va_P D vwCl [zM am f, zA (kk 1) (am 1) 252 st] H → va_D A [zM am f, zA (kk 1) (am 1) 252 st] → va_S A s.heap H locs → ∀ ls : Array Slot, lv_has ls 7 [(3, .int x3), (4, .int x4), (5, .int x5), (0, .ref (am 0)), (1, .int p1), (2, .int p2)] → W p l e { frames := 5, cells := 0, slots := 0, locals := 122 } s m ([.ref (am 0), .int p1, .int p2] : List Value).toArray below meth c H locs 0 0 (MQ below (va_Qi (fun (r : Int32) (u : (Nat → Int32) × (Nat → Int32)) => Q r u.1 u.2) (zB D A (fun u : (Nat → Int32) × (Nat → Int32) => [zM am u.1, zA (kk 1) (am 1) 252 u.2])) A) ([.ref (am 0), .int p1, .int p2] : List Value).toArray s 0 0 A) (F0 m 38 ls []) := by
        intro nl38
        induction nl38 with
        | zero => intro f st x3 x4 x5 h; exact absurd h id
        | succ nl38 ih_38 =>
          intro f st x3 x4 x5 h H locs hP hD hS ls hl
          have h : wbX7_skip_38 p1 p2 Q  (wpX7_skip_38 p1 p2 Q  nl38) f st x3 x4 x5 := h
          unfold wbX7_skip_38 at h
          refine lv_iload hx hb dX7_skip_38 (lv_at hl 2 rfl) ?_
          refine lv_aload_n hx hb dX7_skip_40 rfl (lv_at hl 3 rfl) ?_
          refine va_get (D := D) (ci := 7) (v := .ref (am 1)) (C := RX7) (T := TX7) (N := 29) hx hb hts in_X7 hown hK hP 0 rfl rfl 0 (Nat.le_of_ble_eq_true rfl) (hts _ q939) (fun _ h9 => h9) rfl dX7_skip_41 ?_
          refine lv_bipush (v := (40 : Int32)) hx hb dX7_skip_44 (by decide) ?_
          refine va_iald hx hb hK hP 1 1 rfl rfl (by unfold vp_in; decide) dX7_skip_46 ?_
          refine lv_icmp_ge (tgt := 104) hx hb dX7_skip_47 (by decide) (fun c_8 => ?_) (fun c_8 => ?_)
          · have h := h.1 c_8
            refine lv_iload hx hb dX7_skip_104 (lv_at hl 1 rfl) ?_
            refine lv_bipush (v := (-4 : Int32)) hx hb dX7_skip_106 (by decide) ?_
            have cut_115 : ∀ (f : Nat → Int32) (st : Nat → Int32) (x4 : Int32), wpX7_skip_115 p1 p2 Q (wpX7_skip_38 p1 p2 Q  nl38) f st x4 → ∀ (H : Heap) (locs : List Loc), va_P D vwCl [zM am f, zA (kk 1) (am 1) 252 st] H → va_D A [zM am f, zA (kk 1) (am 1) 252 st] → va_S A s.heap H locs → ∀ ls : Array Slot, lv_has ls 7 [(4, .int x4)] → W p l e { frames := 5, cells := 0, slots := 0, locals := 122 } s m ([.ref (am 0), .int p1, .int p2] : List Value).toArray below meth c H locs 0 0 (MQ below (va_Qi (fun (r : Int32) (u : (Nat → Int32) × (Nat → Int32)) => Q r u.1 u.2) (zB D A (fun u : (Nat → Int32) × (Nat → Int32) => [zM am u.1, zA (kk 1) (am 1) 252 u.2])) A) ([.ref (am 0), .int p1, .int p2] : List Value).toArray s 0 0 A) (F0 m 115 ls []) := by
              intro f st x4 h H locs hP hD hS ls hl
              unfold wpX7_skip_115 at h
              refine lv_iload hx hb dX7_skip_115 (lv_at hl 0 rfl) ?_
              refine lv_goto (tgt := 121) hx hb dX7_skip_117 (by decide) ?_
              exact zr_i hx hb hr hlk rfl hP hD hS (f, st) [0, 1] rfl (by decide) dX7_skip_121 h
            refine lv_icmp_eq (tgt := 115) hx hb dX7_skip_108 (by decide) (fun c_9 => ?_) (fun c_9 => ?_)
            · have h := h.1 c_9
              exact cut_115 f st x4 h _ _ hP hD hS _ (lv_sub hl [1] rfl)
            · have h := h.2 c_9
              refine lv_iload_n hx hb dX7_skip_111 rfl (lv_at hl 5 rfl) ?_
              refine lv_if_ne (tgt := 120) hx hb dX7_skip_112 (by decide) (fun c_10 => ?_) (fun c_10 => ?_)
              · have h := h.2 c_10
                refine lv_iload_n hx hb dX7_skip_120 rfl (lv_at hl 0 rfl) ?_
                exact zr_i hx hb hr hlk rfl hP hD hS (f, st) [0, 1] rfl (by decide) dX7_skip_121 h
              · have h := h.1 c_10
                exact cut_115 f st x4 h _ _ hP hD hS _ (lv_sub hl [1] rfl)
          · have h := h.2 c_8
            refine lv_aload_n hx hb dX7_skip_50 rfl (lv_at hl 3 rfl) ?_
            refine lv_iload hx hb dX7_skip_51 (lv_at hl 2 rfl) ?_
            refine va_put (D := D) (ci := 7) (v := .int x5) (C := RX7) (T := TX7) (N := 29) hx hb hts in_X7 tyX7 tyX7_ok nmX7 hown hK hP hD hS 0 rfl rfl 19 (Nat.le_of_ble_eq_true rfl) (hts _ q958) (fun _ h9 => h9) rfl (tyX7_ok 19 (Nat.le_of_ble_eq_true rfl)) rfl rfl (Nat.le_of_ble_eq_true rfl) dX7_skip_53 (fun H locs hP hD hS => ?_)
            have hP : va_P D vwCl [zM am (upd f 19 x5), zA (kk 1) (am 1) 252 st] H := hP
            have hD : va_D A [zM am (upd f 19 x5), zA (kk 1) (am 1) 252 st] := hD
            refine lv_aload_n hx hb dX7_skip_56 rfl (lv_at hl 3 rfl) ?_
            refine lv_iconst (v := (0 : Int32)) hx hb dX7_skip_57 (by decide) ?_
            refine lv_iload_n hx hb dX7_skip_58 rfl (lv_at hl 4 rfl) ?_
            have hrc := va_recv hK hP (ci := 7) (q0 := 0) rfl rfl
            refine zc_i (wc := [zM am (upd f 19 x5), zA (kk 1) (am 1) 252 st]) (wr := []) (w1 := (fun u : (Nat → Int32) × (Nat → Int32) => [zM am u.1, zA (kk 1) (am 1) 252 u.2])) (rest := []) [0, 1] [] rfl rfl (by decide) (by decide) (by decide) hA hP hD hS (fun hP hD => va_runV (As := [.int (0 : Int32), .int p1]) (rest := []) ⟨hx, hb, hml, hown, hts⟩ (metX7_weeksGo l D kk am _ (upd f 19 x5) st (0 : Int32) p1 _ h) (cwV 2 hts (lw_V q1185 q1187 qs56 q71 q1188) rfl rfl rfl pdX7_weeksGo ⟨(Nat.le_of_ble_eq_true rfl), (Nat.le_of_ble_eq_true rfl)⟩) (zp_V hK hN hrc hP hD) rfl rfl hl.1 rfl (lv_room (Nat.le_of_ble_eq_true rfl)) dX7_skip_59 ⟨(Nat.le_of_ble_eq_true rfl), (Nat.le_of_ble_eq_true rfl)⟩) (fun r_11 u H locs h hP hD hS => ?_)
            obtain ⟨f_12, st_13⟩ := u
            try dsimp only at h
            have hP : va_P D vwCl [zM am f_12, zA (kk 1) (am 1) 252 st_13] H := hP
            have hD : va_D A [zM am f_12, zA (kk 1) (am 1) 252 st_13] := hD
            refine lv_istore (lv' := [(6, .int r_11), (3, .int x3), (4, .int x4), (5, .int x5), (0, .ref (am 0)), (1, .int p1), (2, .int p2)]) hx hb dX7_skip_62 hl (by decide) rfl (fun ls hl => ?_)
            refine lv_aload_n hx hb dX7_skip_64 rfl (lv_at hl 4 rfl) ?_
            refine lv_bipush (v := (-4 : Int32)) hx hb dX7_skip_65 (by decide) ?_
            refine va_put (D := D) (ci := 7) (v := .int (-4 : Int32)) (C := RX7) (T := TX7) (N := 29) hx hb hts in_X7 tyX7 tyX7_ok nmX7 hown hK hP hD hS 0 rfl rfl 19 (Nat.le_of_ble_eq_true rfl) (hts _ q958) (fun _ h9 => h9) rfl (tyX7_ok 19 (Nat.le_of_ble_eq_true rfl)) rfl rfl (Nat.le_of_ble_eq_true rfl) dX7_skip_67 (fun H locs hP hD hS => ?_)
            have hP : va_P D vwCl [zM am (upd f_12 19 (-4 : Int32)), zA (kk 1) (am 1) 252 st_13] H := hP
            have hD : va_D A [zM am (upd f_12 19 (-4 : Int32)), zA (kk 1) (am 1) 252 st_13] := hD
            refine lv_iload hx hb dX7_skip_70 (lv_at hl 0 rfl) ?_
            refine lv_iload_n hx hb dX7_skip_72 rfl (lv_at hl 1 rfl) ?_
            have cut_83 : ∀ (f : Nat → Int32) (st : Nat → Int32) (x3 : Int32) (x5 : Int32) (x6 : Int32) (s0 : Int32), wpX7_skip_83 p1 p2 Q (wpX7_skip_38 p1 p2 Q  nl38) f st x3 x5 x6 s0 → ∀ (H : Heap) (locs : List Loc), va_P D vwCl [zM am f, zA (kk 1) (am 1) 252 st] H → va_D A [zM am f, zA (kk 1) (am 1) 252 st] → va_S A s.heap H locs → ∀ ls : Array Slot, lv_has ls 7 [(3, .int x3), (5, .int x5), (6, .int x6), (0, .ref (am 0)), (1, .int p1), (2, .int p2)] → W p l e { frames := 5, cells := 0, slots := 0, locals := 122 } s m ([.ref (am 0), .int p1, .int p2] : List Value).toArray below meth c H locs 0 0 (MQ below (va_Qi (fun (r : Int32) (u : (Nat → Int32) × (Nat → Int32)) => Q r u.1 u.2) (zB D A (fun u : (Nat → Int32) × (Nat → Int32) => [zM am u.1, zA (kk 1) (am 1) 252 u.2])) A) ([.ref (am 0), .int p1, .int p2] : List Value).toArray s 0 0 A) (F0 m 83 ls [.int s0]) := by
              intro f st x3 x5 x6 s0 h H locs hP hD hS ls hl
              unfold wpX7_skip_83 at h
              refine lv_istore (lv' := [(4, .int s0), (3, .int x3), (5, .int x5), (6, .int x6), (0, .ref (am 0)), (1, .int p1), (2, .int p2)]) hx hb dX7_skip_83 hl (by decide) rfl (fun ls hl => ?_)
              refine lv_iload hx hb dX7_skip_85 (lv_at hl 3 rfl) ?_
              refine lv_iload_n hx hb dX7_skip_87 rfl (lv_at hl 1 rfl) ?_
              have cut_97 : ∀ (f : Nat → Int32) (st : Nat → Int32) (x4 : Int32) (x5 : Int32) (s0 : Int32), wpX7_skip_97 p1 p2 Q (wpX7_skip_38 p1 p2 Q  nl38) f st x4 x5 s0 → ∀ (H : Heap) (locs : List Loc), va_P D vwCl [zM am f, zA (kk 1) (am 1) 252 st] H → va_D A [zM am f, zA (kk 1) (am 1) 252 st] → va_S A s.heap H locs → ∀ ls : Array Slot, lv_has ls 7 [(4, .int x4), (5, .int x5), (0, .ref (am 0)), (1, .int p1), (2, .int p2)] → W p l e { frames := 5, cells := 0, slots := 0, locals := 122 } s m ([.ref (am 0), .int p1, .int p2] : List Value).toArray below meth c H locs 0 0 (MQ below (va_Qi (fun (r : Int32) (u : (Nat → Int32) × (Nat → Int32)) => Q r u.1 u.2) (zB D A (fun u : (Nat → Int32) × (Nat → Int32) => [zM am u.1, zA (kk 1) (am 1) 252 u.2])) A) ([.ref (am 0), .int p1, .int p2] : List Value).toArray s 0 0 A) (F0 m 97 ls [.int s0]) := by
                intro f st x4 x5 s0 h H locs hP hD hS ls hl
                unfold wpX7_skip_97 at h
                refine lv_istore_n (lv' := [(3, .int s0), (4, .int x4), (5, .int x5), (0, .ref (am 0)), (1, .int p1), (2, .int p2)]) hx hb dX7_skip_97 rfl hl (by decide) rfl (fun ls hl => ?_)
                refine lv_iinc (v := (x5 + 1)) (lv' := [(5, .int (x5 + 1)), (3, .int s0), (4, .int x4), (0, .ref (am 0)), (1, .int p1), (2, .int p2)]) hx hb dX7_skip_98 hl (k := 2) rfl rfl (by decide) rfl (fun ls hl => ?_)
                refine lv_goto (tgt := 38) hx hb dX7_skip_101 (by decide) ?_
                exact ih_38 f st s0 x4 (x5 + 1) h _ _ hP hD hS _ (lv_sub hl [1, 2, 0, 3, 4, 5] rfl)
              refine lv_icmp_ge (tgt := 96) hx hb dX7_skip_88 (by decide) (fun c_14 => ?_) (fun c_14 => ?_)
              · have h := h.1 c_14
                refine lv_iload_n hx hb dX7_skip_96 rfl (lv_at hl 1 rfl) ?_
                exact cut_97 f st s0 x5 x3 h _ _ hP hD hS _ (lv_sub hl [0, 2, 4, 5, 6] rfl)
              · have h := h.2 c_14
                refine lv_iload hx hb dX7_skip_91 (lv_at hl 3 rfl) ?_
                refine lv_goto (tgt := 97) hx hb dX7_skip_93 (by decide) ?_
                exact cut_97 f st s0 x5 x6 h _ _ hP hD hS _ (lv_sub hl [0, 2, 4, 5, 6] rfl)
            refine lv_icmp_ge (tgt := 81) hx hb dX7_skip_73 (by decide) (fun c_15 => ?_) (fun c_15 => ?_)
            · have h := h.1 c_15
              refine lv_iload hx hb dX7_skip_81 (lv_at hl 2 rfl) ?_
              exact cut_83 (upd f_12 19 (-4 : Int32)) st_13 x3 x5 r_11 x4 h _ _ hP hD hS _ (lv_sub hl [1, 3, 0, 4, 5, 6] rfl)
            · have h := h.2 c_15
              refine lv_iload hx hb dX7_skip_76 (lv_at hl 3 rfl) ?_
              refine lv_goto (tgt := 83) hx hb dX7_skip_78 (by decide) ?_
              exact cut_83 (upd f_12 19 (-4 : Int32)) st_13 x3 x5 r_11 x5 h _ _ hP hD hS _ (lv_sub hl [1, 3, 0, 4, 5, 6] rfl)
      refine lv_istore (lv' := [(5, .int (0 : Int32)), (4, .int (-4 : Int32)), (3, .int r_5), (0, .ref (am 0)), (1, .int p1), (2, .int p2)]) hx hb dX7_skip_36 hl (by decide) rfl (fun ls hl => ?_)
      obtain ⟨n_38, h⟩ := h
      exact cut_38 n_38 f_6 st_7 r_5 (-4 : Int32) (0 : Int32) h _ _ hP hD hS _ (lv_sub hl [2, 1, 0, 3, 4, 5] rfl)
    · have h := h.1 c_4
      refine lv_iconst (v := (-1 : Int32)) hx hb dX7_skip_22 (by decide) ?_
      exact zr_i hx hb hr hlk rfl hP hD hS (f, st) [0, 1] rfl (by decide) dX7_skip_23 h
def wbX7_most_33 (p1 : Int32) (p2 : Int32) (Q : Int32 → (Nat → Int32) → (Nat → Int32) → Prop) (k33 : (Nat → Int32) → (Nat → Int32) → Int32 → Prop) (f : Nat → Int32) (st : Nat → Int32) (x3 : Int32) : Prop :=
  ((x3 < 0 → Q (-4 : Int32) f st) ∧ (¬ x3 < 0 → (vp_in ((215 : Int32) + p1) 252 ∧ (wpX7_firstLoss f (upd st ((215 : Int32) + p1).toNatClampNeg x3) (210 : Int32) p1 p2 (fun r_8 f_9 st_10 => ((r_8 = (-4 : Int32) → k33 f_9 st_10 (x3 + (-1))) ∧ (¬ r_8 = (-4 : Int32) → Q x3 f_9 st_10)))))))
def wpX7_most_33 (p1 : Int32) (p2 : Int32) (Q : Int32 → (Nat → Int32) → (Nat → Int32) → Prop) (n : Nat) : (Nat → Int32) → (Nat → Int32) → Int32 → Prop :=
  Nat.rec (motive := fun _ => (Nat → Int32) → (Nat → Int32) → Int32 → Prop) (fun _ _ _ => False) (fun _ k => wbX7_most_33 p1 p2 Q  k) n
def wpX7_most (f : Nat → Int32) (st : Nat → Int32) (p1 : Int32) (p2 : Int32) (Q : Int32 → (Nat → Int32) → (Nat → Int32) → Prop) : Prop :=
  (wpX7_isTown f p1 (fun r_1 => ((r_1 = 0 → Q (-1 : Int32) f st) ∧ (¬ r_1 = 0 → (wpX7_in (p2.toInt64) (0 : Int64) (60 : Int64) (fun r_3 => ((r_3 = 0 → Q (-1 : Int32) f st) ∧ (¬ r_3 = 0 → (wpX7_copies st (0 : Int32) (210 : Int32) (fun st_6 => (∃ n : Nat, wpX7_most_33 p1 p2 Q  n f st_6 (20 : Int32))))))))))))
set_option maxHeartbeats 4000000 in
theorem metX7_most (l : Launch) (D : va_G) (kk : Nat → ClassId) (am : Nat → Nat) (sz : Nat) (f : Nat → Int32) (st : Nat → Int32) (p1 : Int32) (p2 : Int32) (Q : Int32 → (Nat → Int32) → (Nat → Int32) → Prop) (h : wpX7_most f st p1 p2 Q) : Met l yX7_most (ws_ yX7_most cX7_most 4 (some .int)) { frames := 5, cells := 0, slots := 0, locals := 123 } (va_Pc ([.ref (am 0), .int p1, .int p2] : List Value) (zPc D kk [zM am f, zA (kk 1) (am 1) 252 st] sz)) (va_Qi (fun (r : Int32) (u : (Nat → Int32) × (Nat → Int32)) => Q r u.1 u.2) (zB D (va_A [zM am f, zA (kk 1) (am 1) 252 st] sz) (fun u : (Nat → Int32) × (Nat → Int32) => [zM am u.1, zA (kk 1) (am 1) 252 u.2])) (va_A [zM am f, zA (kk 1) (am 1) 252 st] sz)) 0 0 (va_A [zM am f, zA (kk 1) (am 1) 252 st] sz) := by
  refine zMet (Qc := fun A => va_Qi (fun (r : Int32) (u : (Nat → Int32) × (Nat → Int32)) => Q r u.1 u.2) (zB D A (fun u : (Nat → Int32) × (Nat → Int32) => [zM am u.1, zA (kk 1) (am 1) 252 u.2])) A) (by decide) (Nat.le_of_ble_eq_true rfl) ?_
  intro p e s m below meth c A X hP hD hS ls hl
  obtain ⟨hx, hb, hr, hml, hown, hts, hlk, hnm, hK, hN, hA⟩ := X
  have hown : s.vm.findClass "LoseLeagueModel" = some m.cls := hown
  have hl : lv_has ls 4 [(0, .ref (am 0)), (1, .int p1), (2, .int p2)] := hl
  unfold wpX7_most at h
  refine lv_aload_n hx hb dX7_most_0 rfl (lv_at hl 0 rfl) ?_
  refine lv_iload_n hx hb dX7_most_1 rfl (lv_at hl 1 rfl) ?_
  have hrc := va_recv hK hP (ci := 7) (q0 := 0) rfl rfl
  refine zc_i (wc := [zM am f]) (wr := [zA (kk 1) (am 1) 252 st]) (w1 := (fun u : Unit => [zM am f])) (rest := []) [0] [1] rfl rfl (by decide) (by decide) (by decide) hA hP hD hS (fun hP hD => va_runV (As := [.int p1]) (rest := []) ⟨hx, hb, hml, hown, hts⟩ (metX7_isTown l D kk am _ f p1 _ h) (cwV 1 hts (lw_V q1105 q1107 qs45 q71 q1108) rfl rfl rfl pdX7_isTown ⟨(Nat.le_of_ble_eq_true rfl), (Nat.le_of_ble_eq_true rfl)⟩) (zp_V hK hN hrc hP hD) rfl rfl hl.1 rfl (lv_room (Nat.le_of_ble_eq_true rfl)) dX7_most_2 ⟨(Nat.le_of_ble_eq_true rfl), (Nat.le_of_ble_eq_true rfl)⟩) (fun r_1 u H locs h hP hD hS => ?_)
  try dsimp only at h
  have hP : va_P D vwCl [zA (kk 1) (am 1) 252 st, zM am f] H := hP
  have hD : va_D A [zA (kk 1) (am 1) 252 st, zM am f] := hD
  refine lv_if_eq (tgt := 20) hx hb dX7_most_5 (by decide) (fun c_2 => ?_) (fun c_2 => ?_)
  · have h := h.1 c_2
    refine lv_iconst (v := (-1 : Int32)) hx hb dX7_most_20 (by decide) ?_
    exact zr_i hx hb hr hlk rfl hP hD hS (f, st) [1, 0] rfl (by decide) dX7_most_21 h
  · have h := h.2 c_2
    refine lv_iload_n hx hb dX7_most_8 rfl (lv_at hl 2 rfl) ?_
    refine lv_i2l hx hb dX7_most_9 rfl ?_
    refine lv_lconst (v := (0 : Int64)) hx hb dX7_most_10 (by decide) ?_
    refine lv_ldc2 (v := (60 : Int64)) hx hb hown (hts _ q1184) dX7_most_11 ?_
    refine zc_i (wc := []) (wr := [zA (kk 1) (am 1) 252 st, zM am f]) (w1 := (fun u : Unit => [])) (rest := []) [] [0, 1] rfl rfl (by decide) (by decide) (by decide) hA hP hD hS (fun hP hD => va_runS (As := [.long (p2.toInt64), .long (0 : Int64), .long (60 : Int64)]) (rest := []) ⟨hx, hb, hml, hown, hts⟩ (metX7_in l D kk _ (p2.toInt64) (0 : Int64) (60 : Int64) _ h) (va_cwS 3 hts (lw_S q1033 q1034 q71 q1035) rfl rfl rfl pdX7_in.2 ⟨(Nat.le_of_ble_eq_true rfl), (Nat.le_of_ble_eq_true rfl)⟩) (zp_S hK hN hP hD) rfl rfl hl.1 rfl (lv_room (Nat.le_of_ble_eq_true rfl)) dX7_most_14 ⟨(Nat.le_of_ble_eq_true rfl), (Nat.le_of_ble_eq_true rfl)⟩) (fun r_3 u H locs h hP hD hS => ?_)
    try dsimp only at h
    have hP : va_P D vwCl [zA (kk 1) (am 1) 252 st, zM am f] H := hP
    have hD : va_D A [zA (kk 1) (am 1) 252 st, zM am f] := hD
    refine lv_if_ne (tgt := 22) hx hb dX7_most_17 (by decide) (fun c_4 => ?_) (fun c_4 => ?_)
    · have h := h.2 c_4
      refine lv_aload_n hx hb dX7_most_22 rfl (lv_at hl 0 rfl) ?_
      refine lv_iconst (v := (0 : Int32)) hx hb dX7_most_23 (by decide) ?_
      refine lv_sipush (v := (210 : Int32)) hx hb dX7_most_24 (by decide) ?_
      have hrc := va_recv hK hP (ci := 7) (q0 := 1) rfl rfl
      refine zc_v (wc := [zM am f, zA (kk 1) (am 1) 252 st]) (wr := []) (w1 := (fun u : (Nat → Int32) => [zM am f, zA (kk 1) (am 1) 252 u])) (rest := []) [1, 0] [] rfl rfl (by decide) (by decide) (by decide) hA hP hD hS (fun hP hD => va_runV (As := [.int (0 : Int32), .int (210 : Int32)]) (rest := []) ⟨hx, hb, hml, hown, hts⟩ (metX7_copies l D kk am _ f st (0 : Int32) (210 : Int32) _ h) (cwV 2 hts (lw_V q1189 q1191 qs57 q71 q1192) rfl rfl rfl pdX7_copies ⟨(Nat.le_of_ble_eq_true rfl), (Nat.le_of_ble_eq_true rfl)⟩) (zp_V hK hN hrc hP hD) rfl rfl hl.1 rfl (lv_room (Nat.le_of_ble_eq_true rfl)) dX7_most_27 ⟨(Nat.le_of_ble_eq_true rfl), (Nat.le_of_ble_eq_true rfl)⟩) (fun u H locs h hP hD hS => ?_)
      obtain ⟨st_6, rfl⟩ : ∃ z, z = u := ⟨_, rfl⟩
      try dsimp only at h
      have hP : va_P D vwCl [zM am f, zA (kk 1) (am 1) 252 st_6] H := hP
      have hD : va_D A [zM am f, zA (kk 1) (am 1) 252 st_6] := hD
      refine lv_bipush (v := (20 : Int32)) hx hb dX7_most_30 (by decide) ?_
      have cut_33 : ∀ (nl33 : Nat) (f : Nat → Int32) (st : Nat → Int32) (x3 : Int32), wpX7_most_33 p1 p2 Q  nl33 f st x3 → ∀ (H : Heap) (locs : List Loc), va_P D vwCl [zM am f, zA (kk 1) (am 1) 252 st] H → va_D A [zM am f, zA (kk 1) (am 1) 252 st] → va_S A s.heap H locs → ∀ ls : Array Slot, lv_has ls 4 [(3, .int x3), (0, .ref (am 0)), (1, .int p1), (2, .int p2)] → W p l e { frames := 5, cells := 0, slots := 0, locals := 123 } s m ([.ref (am 0), .int p1, .int p2] : List Value).toArray below meth c H locs 0 0 (MQ below (va_Qi (fun (r : Int32) (u : (Nat → Int32) × (Nat → Int32)) => Q r u.1 u.2) (zB D A (fun u : (Nat → Int32) × (Nat → Int32) => [zM am u.1, zA (kk 1) (am 1) 252 u.2])) A) ([.ref (am 0), .int p1, .int p2] : List Value).toArray s 0 0 A) (F0 m 33 ls []) := by
        intro nl33
        induction nl33 with
        | zero => intro f st x3 h; exact absurd h id
        | succ nl33 ih_33 =>
          intro f st x3 h H locs hP hD hS ls hl
          have h : wbX7_most_33 p1 p2 Q  (wpX7_most_33 p1 p2 Q  nl33) f st x3 := h
          unfold wbX7_most_33 at h
          refine lv_iload_n hx hb dX7_most_33 rfl (lv_at hl 0 rfl) ?_
          refine lv_if_lt (tgt := 70) hx hb dX7_most_34 (by decide) (fun c_7 => ?_) (fun c_7 => ?_)
          · have h := h.1 c_7
            refine lv_bipush (v := (-4 : Int32)) hx hb dX7_most_70 (by decide) ?_
            exact zr_i hx hb hr hlk rfl hP hD hS (f, st) [0, 1] rfl (by decide) dX7_most_72 h
          · have h := h.2 c_7
            refine lv_aload_n hx hb dX7_most_37 rfl (lv_at hl 1 rfl) ?_
            refine va_get (D := D) (ci := 7) (v := .ref (am 1)) (C := RX7) (T := TX7) (N := 29) hx hb hts in_X7 hown hK hP 0 rfl rfl 0 (Nat.le_of_ble_eq_true rfl) (hts _ q939) (fun _ h9 => h9) rfl dX7_most_38 ?_
            refine lv_sipush (v := (215 : Int32)) hx hb dX7_most_41 (by decide) ?_
            refine lv_iload_n hx hb dX7_most_44 rfl (lv_at hl 2 rfl) ?_
            refine lv_iadd hx hb dX7_most_45 ?_
            refine lv_iload_n hx hb dX7_most_46 rfl (lv_at hl 0 rfl) ?_
            obtain ⟨hin, h⟩ := h
            refine va_iast hx hb hK hP hD hS 1 1 rfl rfl hin dX7_most_47 (fun H locs hP hD hS => ?_)
            have hP : va_P D vwCl [zM am f, zA (kk 1) (am 1) 252 (upd st ((215 : Int32) + p1).toNatClampNeg x3)] H := hP
            have hD : va_D A [zM am f, zA (kk 1) (am 1) 252 (upd st ((215 : Int32) + p1).toNatClampNeg x3)] := hD
            refine lv_aload_n hx hb dX7_most_48 rfl (lv_at hl 1 rfl) ?_
            refine lv_sipush (v := (210 : Int32)) hx hb dX7_most_49 (by decide) ?_
            refine lv_iload_n hx hb dX7_most_52 rfl (lv_at hl 2 rfl) ?_
            refine lv_iload_n hx hb dX7_most_53 rfl (lv_at hl 3 rfl) ?_
            have hrc := va_recv hK hP (ci := 7) (q0 := 0) rfl rfl
            refine zc_i (wc := [zM am f, zA (kk 1) (am 1) 252 (upd st ((215 : Int32) + p1).toNatClampNeg x3)]) (wr := []) (w1 := (fun u : (Nat → Int32) × (Nat → Int32) => [zM am u.1, zA (kk 1) (am 1) 252 u.2])) (rest := []) [0, 1] [] rfl rfl (by decide) (by decide) (by decide) hA hP hD hS (fun hP hD => va_runV (As := [.int (210 : Int32), .int p1, .int p2]) (rest := []) ⟨hx, hb, hml, hown, hts⟩ (metX7_firstLoss l D kk am _ f (upd st ((215 : Int32) + p1).toNatClampNeg x3) (210 : Int32) p1 p2 _ h) (cwV 3 hts (lw_V q1206 q1208 qs58 q71 q1209) rfl rfl rfl pdX7_firstLoss ⟨(Nat.le_of_ble_eq_true rfl), (Nat.le_of_ble_eq_true rfl)⟩) (zp_V hK hN hrc hP hD) rfl rfl hl.1 rfl (lv_room (Nat.le_of_ble_eq_true rfl)) dX7_most_54 ⟨(Nat.le_of_ble_eq_true rfl), (Nat.le_of_ble_eq_true rfl)⟩) (fun r_8 u H locs h hP hD hS => ?_)
            obtain ⟨f_9, st_10⟩ := u
            try dsimp only at h
            have hP : va_P D vwCl [zM am f_9, zA (kk 1) (am 1) 252 st_10] H := hP
            have hD : va_D A [zM am f_9, zA (kk 1) (am 1) 252 st_10] := hD
            refine lv_bipush (v := (-4 : Int32)) hx hb dX7_most_57 (by decide) ?_
            refine lv_icmp_eq (tgt := 64) hx hb dX7_most_59 (by decide) (fun c_11 => ?_) (fun c_11 => ?_)
            · have h := h.1 c_11
              refine lv_iinc (v := (x3 + (-1))) (lv' := [(3, .int (x3 + (-1))), (0, .ref (am 0)), (1, .int p1), (2, .int p2)]) hx hb dX7_most_64 hl (k := 0) rfl rfl (by decide) rfl (fun ls hl => ?_)
              refine lv_goto (tgt := 33) hx hb dX7_most_67 (by decide) ?_
              exact ih_33 f_9 st_10 (x3 + (-1)) h _ _ hP hD hS _ (lv_sub hl [0, 1, 2, 3] rfl)
            · have h := h.2 c_11
              refine lv_iload_n hx hb dX7_most_62 rfl (lv_at hl 0 rfl) ?_
              exact zr_i hx hb hr hlk rfl hP hD hS (f_9, st_10) [0, 1] rfl (by decide) dX7_most_63 h
      refine lv_istore_n (lv' := [(3, .int (20 : Int32)), (0, .ref (am 0)), (1, .int p1), (2, .int p2)]) hx hb dX7_most_32 rfl hl (by decide) rfl (fun ls hl => ?_)
      obtain ⟨n_33, h⟩ := h
      exact cut_33 n_33 f st_6 (20 : Int32) h _ _ hP hD hS _ (lv_sub hl [0, 1, 2, 3] rfl)
    · have h := h.1 c_4
      refine lv_iconst (v := (-1 : Int32)) hx hb dX7_most_20 (by decide) ?_
      exact zr_i hx hb hr hlk rfl hP hD hS (f, st) [1, 0] rfl (by decide) dX7_most_21 h
def wpX7_kind_108 (p1 : Int32) (p2 : Int32) (p3 : Int32) (Q : Int32 → (Nat → Int32) → (Nat → Int32) → Prop) (k50 : (Nat → Int32) → (Nat → Int32) → Int32 → Int32 → Int32 → Prop) (f : Nat → Int32) (st : Nat → Int32) (x5 : Int32) (x6 : Int32) (s0 : Int32) : Prop :=
  k50 f st s0 x5 (x6 + 1)
def wpX7_kind_92 (p1 : Int32) (p2 : Int32) (p3 : Int32) (Q : Int32 → (Nat → Int32) → (Nat → Int32) → Prop) (k50 : (Nat → Int32) → (Nat → Int32) → Int32 → Int32 → Int32 → Prop) (f : Nat → Int32) (st : Nat → Int32) (x4 : Int32) (x6 : Int32) (x7 : Int32) (s0 : Int32) : Prop :=
  ((x4 ≤ x7 → wpX7_kind_108 p1 p2 p3 Q k50 f st s0 x6 x4) ∧ (¬ x4 ≤ x7 → wpX7_kind_108 p1 p2 p3 Q k50 f st s0 x6 x7))
def wbX7_kind_50 (p1 : Int32) (p2 : Int32) (p3 : Int32) (Q : Int32 → (Nat → Int32) → (Nat → Int32) → Prop) (k50 : (Nat → Int32) → (Nat → Int32) → Int32 → Int32 → Int32 → Prop) (f : Nat → Int32) (st : Nat → Int32) (x4 : Int32) (x5 : Int32) (x6 : Int32) : Prop :=
  (((4 : Int32) ≤ x6 → ((p3 = 0 → Q x5 f st) ∧ (¬ p3 = 0 → Q x4 f st))) ∧ (¬ (4 : Int32) ≤ x6 → (vp_in ((210 : Int32) + p1) 252 ∧ (wpX7_weeksGo f (upd st ((210 : Int32) + p1).toNatClampNeg x6) (210 : Int32) p2 (fun r_11 f_12 st_13 => ((x4 ≤ r_11 → wpX7_kind_92 p1 p2 p3 Q k50 f_12 st_13 x4 x6 r_11 x5) ∧ (¬ x4 ≤ r_11 → wpX7_kind_92 p1 p2 p3 Q k50 f_12 st_13 x4 x6 r_11 x6)))))))
def wpX7_kind_50 (p1 : Int32) (p2 : Int32) (p3 : Int32) (Q : Int32 → (Nat → Int32) → (Nat → Int32) → Prop) (n : Nat) : (Nat → Int32) → (Nat → Int32) → Int32 → Int32 → Int32 → Prop :=
  Nat.rec (motive := fun _ => (Nat → Int32) → (Nat → Int32) → Int32 → Int32 → Int32 → Prop) (fun _ _ _ _ _ => False) (fun _ k => wbX7_kind_50 p1 p2 p3 Q  k) n
def wpX7_kind (f : Nat → Int32) (st : Nat → Int32) (p1 : Int32) (p2 : Int32) (p3 : Int32) (Q : Int32 → (Nat → Int32) → (Nat → Int32) → Prop) : Prop :=
  (wpX7_isTown f p1 (fun r_1 => ((r_1 = 0 → Q (-1 : Int32) f st) ∧ (¬ r_1 = 0 → (wpX7_in (p2.toInt64) (0 : Int64) (60 : Int64) (fun r_3 => ((r_3 = 0 → Q (-1 : Int32) f st) ∧ (¬ r_3 = 0 → (wpX7_in (p3.toInt64) (0 : Int64) (1 : Int64) (fun r_5 => ((r_5 = 0 → Q (-1 : Int32) f st) ∧ (¬ r_5 = 0 → (wpX7_copies st (0 : Int32) (210 : Int32) (fun st_8 => (∃ n : Nat, wpX7_kind_50 p1 p2 p3 Q  n f st_8 (1000000 : Int32) (0 : Int32) (0 : Int32))))))))))))))))
set_option maxHeartbeats 4000000 in
theorem metX7_kind (l : Launch) (D : va_G) (kk : Nat → ClassId) (am : Nat → Nat) (sz : Nat) (f : Nat → Int32) (st : Nat → Int32) (p1 : Int32) (p2 : Int32) (p3 : Int32) (Q : Int32 → (Nat → Int32) → (Nat → Int32) → Prop) (h : wpX7_kind f st p1 p2 p3 Q) : Met l yX7_kind (ws_ yX7_kind cX7_kind 8 (some .int)) { frames := 5, cells := 0, slots := 0, locals := 122 } (va_Pc ([.ref (am 0), .int p1, .int p2, .int p3] : List Value) (zPc D kk [zM am f, zA (kk 1) (am 1) 252 st] sz)) (va_Qi (fun (r : Int32) (u : (Nat → Int32) × (Nat → Int32)) => Q r u.1 u.2) (zB D (va_A [zM am f, zA (kk 1) (am 1) 252 st] sz) (fun u : (Nat → Int32) × (Nat → Int32) => [zM am u.1, zA (kk 1) (am 1) 252 u.2])) (va_A [zM am f, zA (kk 1) (am 1) 252 st] sz)) 0 0 (va_A [zM am f, zA (kk 1) (am 1) 252 st] sz) := by
  refine zMet (Qc := fun A => va_Qi (fun (r : Int32) (u : (Nat → Int32) × (Nat → Int32)) => Q r u.1 u.2) (zB D A (fun u : (Nat → Int32) × (Nat → Int32) => [zM am u.1, zA (kk 1) (am 1) 252 u.2])) A) (by decide) (Nat.le_of_ble_eq_true rfl) ?_
  intro p e s m below meth c A X hP hD hS ls hl
  obtain ⟨hx, hb, hr, hml, hown, hts, hlk, hnm, hK, hN, hA⟩ := X
  have hown : s.vm.findClass "LoseLeagueModel" = some m.cls := hown
  have hl : lv_has ls 8 [(0, .ref (am 0)), (1, .int p1), (2, .int p2), (3, .int p3)] := hl
  unfold wpX7_kind at h
  refine lv_aload_n hx hb dX7_kind_0 rfl (lv_at hl 0 rfl) ?_
  refine lv_iload_n hx hb dX7_kind_1 rfl (lv_at hl 1 rfl) ?_
  have hrc := va_recv hK hP (ci := 7) (q0 := 0) rfl rfl
  refine zc_i (wc := [zM am f]) (wr := [zA (kk 1) (am 1) 252 st]) (w1 := (fun u : Unit => [zM am f])) (rest := []) [0] [1] rfl rfl (by decide) (by decide) (by decide) hA hP hD hS (fun hP hD => va_runV (As := [.int p1]) (rest := []) ⟨hx, hb, hml, hown, hts⟩ (metX7_isTown l D kk am _ f p1 _ h) (cwV 1 hts (lw_V q1105 q1107 qs45 q71 q1108) rfl rfl rfl pdX7_isTown ⟨(Nat.le_of_ble_eq_true rfl), (Nat.le_of_ble_eq_true rfl)⟩) (zp_V hK hN hrc hP hD) rfl rfl hl.1 rfl (lv_room (Nat.le_of_ble_eq_true rfl)) dX7_kind_2 ⟨(Nat.le_of_ble_eq_true rfl), (Nat.le_of_ble_eq_true rfl)⟩) (fun r_1 u H locs h hP hD hS => ?_)
  try dsimp only at h
  have hP : va_P D vwCl [zA (kk 1) (am 1) 252 st, zM am f] H := hP
  have hD : va_D A [zA (kk 1) (am 1) 252 st, zM am f] := hD
  refine lv_if_eq (tgt := 30) hx hb dX7_kind_5 (by decide) (fun c_2 => ?_) (fun c_2 => ?_)
  · have h := h.1 c_2
    refine lv_iconst (v := (-1 : Int32)) hx hb dX7_kind_30 (by decide) ?_
    exact zr_i hx hb hr hlk rfl hP hD hS (f, st) [1, 0] rfl (by decide) dX7_kind_31 h
  · have h := h.2 c_2
    refine lv_iload_n hx hb dX7_kind_8 rfl (lv_at hl 2 rfl) ?_
    refine lv_i2l hx hb dX7_kind_9 rfl ?_
    refine lv_lconst (v := (0 : Int64)) hx hb dX7_kind_10 (by decide) ?_
    refine lv_ldc2 (v := (60 : Int64)) hx hb hown (hts _ q1184) dX7_kind_11 ?_
    refine zc_i (wc := []) (wr := [zA (kk 1) (am 1) 252 st, zM am f]) (w1 := (fun u : Unit => [])) (rest := []) [] [0, 1] rfl rfl (by decide) (by decide) (by decide) hA hP hD hS (fun hP hD => va_runS (As := [.long (p2.toInt64), .long (0 : Int64), .long (60 : Int64)]) (rest := []) ⟨hx, hb, hml, hown, hts⟩ (metX7_in l D kk _ (p2.toInt64) (0 : Int64) (60 : Int64) _ h) (va_cwS 3 hts (lw_S q1033 q1034 q71 q1035) rfl rfl rfl pdX7_in.2 ⟨(Nat.le_of_ble_eq_true rfl), (Nat.le_of_ble_eq_true rfl)⟩) (zp_S hK hN hP hD) rfl rfl hl.1 rfl (lv_room (Nat.le_of_ble_eq_true rfl)) dX7_kind_14 ⟨(Nat.le_of_ble_eq_true rfl), (Nat.le_of_ble_eq_true rfl)⟩) (fun r_3 u H locs h hP hD hS => ?_)
    try dsimp only at h
    have hP : va_P D vwCl [zA (kk 1) (am 1) 252 st, zM am f] H := hP
    have hD : va_D A [zA (kk 1) (am 1) 252 st, zM am f] := hD
    refine lv_if_eq (tgt := 30) hx hb dX7_kind_17 (by decide) (fun c_4 => ?_) (fun c_4 => ?_)
    · have h := h.1 c_4
      refine lv_iconst (v := (-1 : Int32)) hx hb dX7_kind_30 (by decide) ?_
      exact zr_i hx hb hr hlk rfl hP hD hS (f, st) [1, 0] rfl (by decide) dX7_kind_31 h
    · have h := h.2 c_4
      refine lv_iload_n hx hb dX7_kind_20 rfl (lv_at hl 3 rfl) ?_
      refine lv_i2l hx hb dX7_kind_21 rfl ?_
      refine lv_lconst (v := (0 : Int64)) hx hb dX7_kind_22 (by decide) ?_
      refine lv_lconst (v := (1 : Int64)) hx hb dX7_kind_23 (by decide) ?_
      refine zc_i (wc := []) (wr := [zA (kk 1) (am 1) 252 st, zM am f]) (w1 := (fun u : Unit => [])) (rest := []) [] [0, 1] rfl rfl (by decide) (by decide) (by decide) hA hP hD hS (fun hP hD => va_runS (As := [.long (p3.toInt64), .long (0 : Int64), .long (1 : Int64)]) (rest := []) ⟨hx, hb, hml, hown, hts⟩ (metX7_in l D kk _ (p3.toInt64) (0 : Int64) (1 : Int64) _ h) (va_cwS 3 hts (lw_S q1033 q1034 q71 q1035) rfl rfl rfl pdX7_in.2 ⟨(Nat.le_of_ble_eq_true rfl), (Nat.le_of_ble_eq_true rfl)⟩) (zp_S hK hN hP hD) rfl rfl hl.1 rfl (lv_room (Nat.le_of_ble_eq_true rfl)) dX7_kind_24 ⟨(Nat.le_of_ble_eq_true rfl), (Nat.le_of_ble_eq_true rfl)⟩) (fun r_5 u H locs h hP hD hS => ?_)
      try dsimp only at h
      have hP : va_P D vwCl [zA (kk 1) (am 1) 252 st, zM am f] H := hP
      have hD : va_D A [zA (kk 1) (am 1) 252 st, zM am f] := hD
      refine lv_if_ne (tgt := 32) hx hb dX7_kind_27 (by decide) (fun c_6 => ?_) (fun c_6 => ?_)
      · have h := h.2 c_6
        refine lv_ldc (v := (1000000 : Int32)) hx hb hown (hts _ q1216) dX7_kind_32 ?_
        refine lv_istore (lv' := [(4, .int (1000000 : Int32)), (0, .ref (am 0)), (1, .int p1), (2, .int p2), (3, .int p3)]) hx hb dX7_kind_34 hl (by decide) rfl (fun ls hl => ?_)
        refine lv_iconst (v := (0 : Int32)) hx hb dX7_kind_36 (by decide) ?_
        refine lv_istore (lv' := [(5, .int (0 : Int32)), (4, .int (1000000 : Int32)), (0, .ref (am 0)), (1, .int p1), (2, .int p2), (3, .int p3)]) hx hb dX7_kind_37 hl (by decide) rfl (fun ls hl => ?_)
        refine lv_aload_n hx hb dX7_kind_39 rfl (lv_at hl 2 rfl) ?_
        refine lv_iconst (v := (0 : Int32)) hx hb dX7_kind_40 (by decide) ?_
        refine lv_sipush (v := (210 : Int32)) hx hb dX7_kind_41 (by decide) ?_
        have hrc := va_recv hK hP (ci := 7) (q0 := 1) rfl rfl
        refine zc_v (wc := [zM am f, zA (kk 1) (am 1) 252 st]) (wr := []) (w1 := (fun u : (Nat → Int32) => [zM am f, zA (kk 1) (am 1) 252 u])) (rest := []) [1, 0] [] rfl rfl (by decide) (by decide) (by decide) hA hP hD hS (fun hP hD => va_runV (As := [.int (0 : Int32), .int (210 : Int32)]) (rest := []) ⟨hx, hb, hml, hown, hts⟩ (metX7_copies l D kk am _ f st (0 : Int32) (210 : Int32) _ h) (cwV 2 hts (lw_V q1189 q1191 qs57 q71 q1192) rfl rfl rfl pdX7_copies ⟨(Nat.le_of_ble_eq_true rfl), (Nat.le_of_ble_eq_true rfl)⟩) (zp_V hK hN hrc hP hD) rfl rfl hl.1 rfl (lv_room (Nat.le_of_ble_eq_true rfl)) dX7_kind_44 ⟨(Nat.le_of_ble_eq_true rfl), (Nat.le_of_ble_eq_true rfl)⟩) (fun u H locs h hP hD hS => ?_)
        obtain ⟨st_8, rfl⟩ : ∃ z, z = u := ⟨_, rfl⟩
        try dsimp only at h
        have hP : va_P D vwCl [zM am f, zA (kk 1) (am 1) 252 st_8] H := hP
        have hD : va_D A [zM am f, zA (kk 1) (am 1) 252 st_8] := hD
        refine lv_iconst (v := (0 : Int32)) hx hb dX7_kind_47 (by decide) ?_
        have cut_50 : ∀ (nl50 : Nat) (f : Nat → Int32) (st : Nat → Int32) (x4 : Int32) (x5 : Int32) (x6 : Int32), wpX7_kind_50 p1 p2 p3 Q  nl50 f st x4 x5 x6 → ∀ (H : Heap) (locs : List Loc), va_P D vwCl [zM am f, zA (kk 1) (am 1) 252 st] H → va_D A [zM am f, zA (kk 1) (am 1) 252 st] → va_S A s.heap H locs → ∀ ls : Array Slot, lv_has ls 8 [(4, .int x4), (5, .int x5), (6, .int x6), (0, .ref (am 0)), (1, .int p1), (2, .int p2), (3, .int p3)] → W p l e { frames := 5, cells := 0, slots := 0, locals := 122 } s m ([.ref (am 0), .int p1, .int p2, .int p3] : List Value).toArray below meth c H locs 0 0 (MQ below (va_Qi (fun (r : Int32) (u : (Nat → Int32) × (Nat → Int32)) => Q r u.1 u.2) (zB D A (fun u : (Nat → Int32) × (Nat → Int32) => [zM am u.1, zA (kk 1) (am 1) 252 u.2])) A) ([.ref (am 0), .int p1, .int p2, .int p3] : List Value).toArray s 0 0 A) (F0 m 50 ls []) := by
          intro nl50
          induction nl50 with
          | zero => intro f st x4 x5 x6 h; exact absurd h id
          | succ nl50 ih_50 =>
            intro f st x4 x5 x6 h H locs hP hD hS ls hl
            have h : wbX7_kind_50 p1 p2 p3 Q  (wpX7_kind_50 p1 p2 p3 Q  nl50) f st x4 x5 x6 := h
            unfold wbX7_kind_50 at h
            refine lv_iload hx hb dX7_kind_50 (lv_at hl 2 rfl) ?_
            refine lv_iconst (v := (4 : Int32)) hx hb dX7_kind_52 (by decide) ?_
            refine lv_icmp_ge (tgt := 116) hx hb dX7_kind_53 (by decide) (fun c_9 => ?_) (fun c_9 => ?_)
            · have h := h.1 c_9
              refine lv_iload_n hx hb dX7_kind_116 rfl (lv_at hl 6 rfl) ?_
              refine lv_if_ne (tgt := 125) hx hb dX7_kind_117 (by decide) (fun c_10 => ?_) (fun c_10 => ?_)
              · have h := h.2 c_10
                refine lv_iload hx hb dX7_kind_125 (lv_at hl 0 rfl) ?_
                exact zr_i hx hb hr hlk rfl hP hD hS (f, st) [0, 1] rfl (by decide) dX7_kind_127 h
              · have h := h.1 c_10
                refine lv_iload hx hb dX7_kind_120 (lv_at hl 1 rfl) ?_
                refine lv_goto (tgt := 127) hx hb dX7_kind_122 (by decide) ?_
                exact zr_i hx hb hr hlk rfl hP hD hS (f, st) [0, 1] rfl (by decide) dX7_kind_127 h
            · have h := h.2 c_9
              refine lv_aload_n hx hb dX7_kind_56 rfl (lv_at hl 3 rfl) ?_
              refine va_get (D := D) (ci := 7) (v := .ref (am 1)) (C := RX7) (T := TX7) (N := 29) hx hb hts in_X7 hown hK hP 0 rfl rfl 0 (Nat.le_of_ble_eq_true rfl) (hts _ q939) (fun _ h9 => h9) rfl dX7_kind_57 ?_
              refine lv_sipush (v := (210 : Int32)) hx hb dX7_kind_60 (by decide) ?_
              refine lv_iload_n hx hb dX7_kind_63 rfl (lv_at hl 4 rfl) ?_
              refine lv_iadd hx hb dX7_kind_64 ?_
              refine lv_iload hx hb dX7_kind_65 (lv_at hl 2 rfl) ?_
              obtain ⟨hin, h⟩ := h
              refine va_iast hx hb hK hP hD hS 1 1 rfl rfl hin dX7_kind_67 (fun H locs hP hD hS => ?_)
              have hP : va_P D vwCl [zM am f, zA (kk 1) (am 1) 252 (upd st ((210 : Int32) + p1).toNatClampNeg x6)] H := hP
              have hD : va_D A [zM am f, zA (kk 1) (am 1) 252 (upd st ((210 : Int32) + p1).toNatClampNeg x6)] := hD
              refine lv_aload_n hx hb dX7_kind_68 rfl (lv_at hl 3 rfl) ?_
              refine lv_sipush (v := (210 : Int32)) hx hb dX7_kind_69 (by decide) ?_
              refine lv_iload_n hx hb dX7_kind_72 rfl (lv_at hl 5 rfl) ?_
              have hrc := va_recv hK hP (ci := 7) (q0 := 0) rfl rfl
              refine zc_i (wc := [zM am f, zA (kk 1) (am 1) 252 (upd st ((210 : Int32) + p1).toNatClampNeg x6)]) (wr := []) (w1 := (fun u : (Nat → Int32) × (Nat → Int32) => [zM am u.1, zA (kk 1) (am 1) 252 u.2])) (rest := []) [0, 1] [] rfl rfl (by decide) (by decide) (by decide) hA hP hD hS (fun hP hD => va_runV (As := [.int (210 : Int32), .int p2]) (rest := []) ⟨hx, hb, hml, hown, hts⟩ (metX7_weeksGo l D kk am _ f (upd st ((210 : Int32) + p1).toNatClampNeg x6) (210 : Int32) p2 _ h) (cwV 2 hts (lw_V q1185 q1187 qs56 q71 q1188) rfl rfl rfl pdX7_weeksGo ⟨(Nat.le_of_ble_eq_true rfl), (Nat.le_of_ble_eq_true rfl)⟩) (zp_V hK hN hrc hP hD) rfl rfl hl.1 rfl (lv_room (Nat.le_of_ble_eq_true rfl)) dX7_kind_73 ⟨(Nat.le_of_ble_eq_true rfl), (Nat.le_of_ble_eq_true rfl)⟩) (fun r_11 u H locs h hP hD hS => ?_)
              obtain ⟨f_12, st_13⟩ := u
              try dsimp only at h
              have hP : va_P D vwCl [zM am f_12, zA (kk 1) (am 1) 252 st_13] H := hP
              have hD : va_D A [zM am f_12, zA (kk 1) (am 1) 252 st_13] := hD
              refine lv_istore (lv' := [(7, .int r_11), (4, .int x4), (5, .int x5), (6, .int x6), (0, .ref (am 0)), (1, .int p1), (2, .int p2), (3, .int p3)]) hx hb dX7_kind_76 hl (by decide) rfl (fun ls hl => ?_)
              refine lv_iload hx hb dX7_kind_78 (lv_at hl 0 rfl) ?_
              refine lv_iload hx hb dX7_kind_80 (lv_at hl 1 rfl) ?_
              have cut_92 : ∀ (f : Nat → Int32) (st : Nat → Int32) (x4 : Int32) (x6 : Int32) (x7 : Int32) (s0 : Int32), wpX7_kind_92 p1 p2 p3 Q (wpX7_kind_50 p1 p2 p3 Q  nl50) f st x4 x6 x7 s0 → ∀ (H : Heap) (locs : List Loc), va_P D vwCl [zM am f, zA (kk 1) (am 1) 252 st] H → va_D A [zM am f, zA (kk 1) (am 1) 252 st] → va_S A s.heap H locs → ∀ ls : Array Slot, lv_has ls 8 [(4, .int x4), (6, .int x6), (7, .int x7), (0, .ref (am 0)), (1, .int p1), (2, .int p2), (3, .int p3)] → W p l e { frames := 5, cells := 0, slots := 0, locals := 122 } s m ([.ref (am 0), .int p1, .int p2, .int p3] : List Value).toArray below meth c H locs 0 0 (MQ below (va_Qi (fun (r : Int32) (u : (Nat → Int32) × (Nat → Int32)) => Q r u.1 u.2) (zB D A (fun u : (Nat → Int32) × (Nat → Int32) => [zM am u.1, zA (kk 1) (am 1) 252 u.2])) A) ([.ref (am 0), .int p1, .int p2, .int p3] : List Value).toArray s 0 0 A) (F0 m 92 ls [.int s0]) := by
                intro f st x4 x6 x7 s0 h H locs hP hD hS ls hl
                unfold wpX7_kind_92 at h
                refine lv_istore (lv' := [(5, .int s0), (4, .int x4), (6, .int x6), (7, .int x7), (0, .ref (am 0)), (1, .int p1), (2, .int p2), (3, .int p3)]) hx hb dX7_kind_92 hl (by decide) rfl (fun ls hl => ?_)
                refine lv_iload hx hb dX7_kind_94 (lv_at hl 3 rfl) ?_
                refine lv_iload hx hb dX7_kind_96 (lv_at hl 1 rfl) ?_
                have cut_108 : ∀ (f : Nat → Int32) (st : Nat → Int32) (x5 : Int32) (x6 : Int32) (s0 : Int32), wpX7_kind_108 p1 p2 p3 Q (wpX7_kind_50 p1 p2 p3 Q  nl50) f st x5 x6 s0 → ∀ (H : Heap) (locs : List Loc), va_P D vwCl [zM am f, zA (kk 1) (am 1) 252 st] H → va_D A [zM am f, zA (kk 1) (am 1) 252 st] → va_S A s.heap H locs → ∀ ls : Array Slot, lv_has ls 8 [(5, .int x5), (6, .int x6), (0, .ref (am 0)), (1, .int p1), (2, .int p2), (3, .int p3)] → W p l e { frames := 5, cells := 0, slots := 0, locals := 122 } s m ([.ref (am 0), .int p1, .int p2, .int p3] : List Value).toArray below meth c H locs 0 0 (MQ below (va_Qi (fun (r : Int32) (u : (Nat → Int32) × (Nat → Int32)) => Q r u.1 u.2) (zB D A (fun u : (Nat → Int32) × (Nat → Int32) => [zM am u.1, zA (kk 1) (am 1) 252 u.2])) A) ([.ref (am 0), .int p1, .int p2, .int p3] : List Value).toArray s 0 0 A) (F0 m 108 ls [.int s0]) := by
                  intro f st x5 x6 s0 h H locs hP hD hS ls hl
                  unfold wpX7_kind_108 at h
                  refine lv_istore (lv' := [(4, .int s0), (5, .int x5), (6, .int x6), (0, .ref (am 0)), (1, .int p1), (2, .int p2), (3, .int p3)]) hx hb dX7_kind_108 hl (by decide) rfl (fun ls hl => ?_)
                  refine lv_iinc (v := (x6 + 1)) (lv' := [(6, .int (x6 + 1)), (4, .int s0), (5, .int x5), (0, .ref (am 0)), (1, .int p1), (2, .int p2), (3, .int p3)]) hx hb dX7_kind_110 hl (k := 2) rfl rfl (by decide) rfl (fun ls hl => ?_)
                  refine lv_goto (tgt := 50) hx hb dX7_kind_113 (by decide) ?_
                  exact ih_50 f st s0 x5 (x6 + 1) h _ _ hP hD hS _ (lv_sub hl [1, 2, 0, 3, 4, 5, 6] rfl)
                refine lv_icmp_ge (tgt := 106) hx hb dX7_kind_98 (by decide) (fun c_14 => ?_) (fun c_14 => ?_)
                · have h := h.1 c_14
                  refine lv_iload hx hb dX7_kind_106 (lv_at hl 1 rfl) ?_
                  exact cut_108 f st s0 x6 x4 h _ _ hP hD hS _ (lv_sub hl [0, 2, 4, 5, 6, 7] rfl)
                · have h := h.2 c_14
                  refine lv_iload hx hb dX7_kind_101 (lv_at hl 3 rfl) ?_
                  refine lv_goto (tgt := 108) hx hb dX7_kind_103 (by decide) ?_
                  exact cut_108 f st s0 x6 x7 h _ _ hP hD hS _ (lv_sub hl [0, 2, 4, 5, 6, 7] rfl)
              refine lv_icmp_ge (tgt := 90) hx hb dX7_kind_82 (by decide) (fun c_15 => ?_) (fun c_15 => ?_)
              · have h := h.1 c_15
                refine lv_iload hx hb dX7_kind_90 (lv_at hl 2 rfl) ?_
                exact cut_92 f_12 st_13 x4 x6 r_11 x5 h _ _ hP hD hS _ (lv_sub hl [1, 3, 0, 4, 5, 6, 7] rfl)
              · have h := h.2 c_15
                refine lv_iload hx hb dX7_kind_85 (lv_at hl 3 rfl) ?_
                refine lv_goto (tgt := 92) hx hb dX7_kind_87 (by decide) ?_
                exact cut_92 f_12 st_13 x4 x6 r_11 x6 h _ _ hP hD hS _ (lv_sub hl [1, 3, 0, 4, 5, 6, 7] rfl)
        refine lv_istore (lv' := [(6, .int (0 : Int32)), (5, .int (0 : Int32)), (4, .int (1000000 : Int32)), (0, .ref (am 0)), (1, .int p1), (2, .int p2), (3, .int p3)]) hx hb dX7_kind_48 hl (by decide) rfl (fun ls hl => ?_)
        obtain ⟨n_50, h⟩ := h
        exact cut_50 n_50 f st_8 (1000000 : Int32) (0 : Int32) (0 : Int32) h _ _ hP hD hS _ (lv_sub hl [2, 1, 0, 3, 4, 5, 6] rfl)
      · have h := h.1 c_6
        refine lv_iconst (v := (-1 : Int32)) hx hb dX7_kind_30 (by decide) ?_
        exact zr_i hx hb hr hlk rfl hP hD hS (f, st) [1, 0] rfl (by decide) dX7_kind_31 h
def wpX7_byRain_166 (p1 : Int32) (p2 : Int32) (p3 : Int32) (p4 : Int32) (Q : Int64 → (Nat → Int32) → (Nat → Int32) → Prop) (k9 : (Nat → Int32) → (Nat → Int32) → Int64 → Int64 → Int32 → Prop) (k32 : (Nat → Int32) → (Nat → Int32) → Int64 → Int64 → Int32 → Prop) (k57 : (Nat → Int32) → (Nat → Int32) → Int64 → Int64 → Int32 → Int64 → Int32 → Int32 → Prop) (f : Nat → Int32) (st : Nat → Int32) (x7 : Int64) (x9 : Int32) (s2 : Int32) (s1 : Int64) (s0 : Int64) : Prop :=
  k32 f st (s0 + (s1 * (s2.toInt64))) x7 (x9 + 1)
def wpX7_byRain_131 (p1 : Int32) (p2 : Int32) (p3 : Int32) (p4 : Int32) (Q : Int64 → (Nat → Int32) → (Nat → Int32) → Prop) (k9 : (Nat → Int32) → (Nat → Int32) → Int64 → Int64 → Int32 → Prop) (k32 : (Nat → Int32) → (Nat → Int32) → Int64 → Int64 → Int32 → Prop) (k57 : (Nat → Int32) → (Nat → Int32) → Int64 → Int64 → Int32 → Int64 → Int32 → Int32 → Prop) (f : Nat → Int32) (st : Nat → Int32) (x5 : Int64) (x7 : Int64) (x9 : Int32) (x10 : Int64) (x13 : Int32) (s1 : Int32) (s0 : Int32) : Prop :=
  k57 f st x5 x7 x9 x10 (s0 ||| s1) (x13 + 1)
def wpX7_byRain_98 (p1 : Int32) (p2 : Int32) (p3 : Int32) (p4 : Int32) (Q : Int64 → (Nat → Int32) → (Nat → Int32) → Prop) (k9 : (Nat → Int32) → (Nat → Int32) → Int64 → Int64 → Int32 → Prop) (k32 : (Nat → Int32) → (Nat → Int32) → Int64 → Int64 → Int32 → Prop) (k57 : (Nat → Int32) → (Nat → Int32) → Int64 → Int64 → Int32 → Int64 → Int32 → Int32 → Prop) (f : Nat → Int32) (st : Nat → Int32) (x5 : Int64) (x7 : Int64) (x9 : Int32) (x12 : Int32) (x13 : Int32) (x14 : Int32) (s1 : Int64) (s0 : Int64) : Prop :=
  (wpX7_weekOn f st (168 : Int32) x14 (fun f_10 st_11 => (((f_10 16) = (-4 : Int32) → wpX7_byRain_131 p1 p2 p3 p4 Q k9 k32 k57 f_10 st_11 x5 x7 x9 (s0 * s1) x13 (0 : Int32) x12) ∧ (¬ (f_10 16) = (-4 : Int32) → wpX7_byRain_131 p1 p2 p3 p4 Q k9 k32 k57 f_10 st_11 x5 x7 x9 (s0 * s1) x13 ((1 : Int32) <<< ((f_10 16) &&& 31)) x12))))
def wpX7_byRain_79 (p1 : Int32) (p2 : Int32) (p3 : Int32) (p4 : Int32) (Q : Int64 → (Nat → Int32) → (Nat → Int32) → Prop) (k9 : (Nat → Int32) → (Nat → Int32) → Int64 → Int64 → Int32 → Prop) (k32 : (Nat → Int32) → (Nat → Int32) → Int64 → Int64 → Int32 → Prop) (k57 : (Nat → Int32) → (Nat → Int32) → Int64 → Int64 → Int32 → Int64 → Int32 → Int32 → Prop) (f : Nat → Int32) (st : Nat → Int32) (x5 : Int64) (x7 : Int64) (x9 : Int32) (x10 : Int64) (x12 : Int32) (x13 : Int32) (s0 : Int32) : Prop :=
  ((s0 = 0 → wpX7_byRain_98 p1 p2 p3 p4 Q k9 k32 k57 f st x5 x7 x9 x12 x13 s0 (((10 : Int32) - p1).toInt64) x10) ∧ (¬ s0 = 0 → wpX7_byRain_98 p1 p2 p3 p4 Q k9 k32 k57 f st x5 x7 x9 x12 x13 s0 (p1.toInt64) x10))
def wbX7_byRain_57 (p1 : Int32) (p2 : Int32) (p3 : Int32) (p4 : Int32) (Q : Int64 → (Nat → Int32) → (Nat → Int32) → Prop) (k9 : (Nat → Int32) → (Nat → Int32) → Int64 → Int64 → Int32 → Prop) (k32 : (Nat → Int32) → (Nat → Int32) → Int64 → Int64 → Int32 → Prop) (k57 : (Nat → Int32) → (Nat → Int32) → Int64 → Int64 → Int32 → Int64 → Int32 → Int32 → Prop) (f : Nat → Int32) (st : Nat → Int32) (x5 : Int64) (x7 : Int64) (x9 : Int32) (x10 : Int64) (x12 : Int32) (x13 : Int32) : Prop :=
  ((p3 ≤ x13 → ((p2 = (-4 : Int32) → (wpX7_owedOn f st (168 : Int32) (fun r_8 => wpX7_byRain_166 p1 p2 p3 p4 Q k9 k32 k57 f st x7 x9 r_8 x10 x5))) ∧ (¬ p2 = (-4 : Int32) → wpX7_byRain_166 p1 p2 p3 p4 Q k9 k32 k57 f st x7 x9 ((x12 >>> (p2 &&& 31)) &&& (1 : Int32)) x10 x5))) ∧ (¬ p3 ≤ x13 → ((((x9 >>> (x13 &&& 31)) &&& (1 : Int32)) = (1 : Int32) → wpX7_byRain_79 p1 p2 p3 p4 Q k9 k32 k57 f st x5 x7 x9 x10 x12 x13 (1 : Int32)) ∧ (¬ ((x9 >>> (x13 &&& 31)) &&& (1 : Int32)) = (1 : Int32) → wpX7_byRain_79 p1 p2 p3 p4 Q k9 k32 k57 f st x5 x7 x9 x10 x12 x13 (0 : Int32)))))
def wpX7_byRain_57 (p1 : Int32) (p2 : Int32) (p3 : Int32) (p4 : Int32) (Q : Int64 → (Nat → Int32) → (Nat → Int32) → Prop) (k9 : (Nat → Int32) → (Nat → Int32) → Int64 → Int64 → Int32 → Prop) (k32 : (Nat → Int32) → (Nat → Int32) → Int64 → Int64 → Int32 → Prop) (n : Nat) : (Nat → Int32) → (Nat → Int32) → Int64 → Int64 → Int32 → Int64 → Int32 → Int32 → Prop :=
  Nat.rec (motive := fun _ => (Nat → Int32) → (Nat → Int32) → Int64 → Int64 → Int32 → Int64 → Int32 → Int32 → Prop) (fun _ _ _ _ _ _ _ _ => False) (fun _ k => wbX7_byRain_57 p1 p2 p3 p4 Q k9 k32 k) n
def wbX7_byRain_32 (p1 : Int32) (p2 : Int32) (p3 : Int32) (p4 : Int32) (Q : Int64 → (Nat → Int32) → (Nat → Int32) → Prop) (k9 : (Nat → Int32) → (Nat → Int32) → Int64 → Int64 → Int32 → Prop) (k32 : (Nat → Int32) → (Nat → Int32) → Int64 → Int64 → Int32 → Prop) (f : Nat → Int32) (st : Nat → Int32) (x5 : Int64) (x7 : Int64) (x9 : Int32) : Prop :=
  ((((1 : Int32) <<< (p3 &&& 31)) ≤ x9 → (wpX7_lowest x5 x7 p4 (fun r_3 => Q r_3 f st))) ∧ (¬ ((1 : Int32) <<< (p3 &&& 31)) ≤ x9 → (wpX7_copies st (0 : Int32) (168 : Int32) (fun st_5 => (∃ n : Nat, wpX7_byRain_57 p1 p2 p3 p4 Q k9 k32 n f st_5 x5 x7 x9 (1 : Int64) (0 : Int32) (0 : Int32))))))
def wpX7_byRain_32 (p1 : Int32) (p2 : Int32) (p3 : Int32) (p4 : Int32) (Q : Int64 → (Nat → Int32) → (Nat → Int32) → Prop) (k9 : (Nat → Int32) → (Nat → Int32) → Int64 → Int64 → Int32 → Prop) (n : Nat) : (Nat → Int32) → (Nat → Int32) → Int64 → Int64 → Int32 → Prop :=
  Nat.rec (motive := fun _ => (Nat → Int32) → (Nat → Int32) → Int64 → Int64 → Int32 → Prop) (fun _ _ _ _ _ => False) (fun _ k => wbX7_byRain_32 p1 p2 p3 p4 Q k9 k) n
def wbX7_byRain_9 (p1 : Int32) (p2 : Int32) (p3 : Int32) (p4 : Int32) (Q : Int64 → (Nat → Int32) → (Nat → Int32) → Prop) (k9 : (Nat → Int32) → (Nat → Int32) → Int64 → Int64 → Int32 → Prop) (f : Nat → Int32) (st : Nat → Int32) (x5 : Int64) (x7 : Int64) (x9 : Int32) : Prop :=
  ((p3 ≤ x9 → (∃ n : Nat, wpX7_byRain_32 p1 p2 p3 p4 Q k9 n f st x5 x7 (0 : Int32))) ∧ (¬ p3 ≤ x9 → k9 f st x5 (x7 * (10 : Int64)) (x9 + 1)))
def wpX7_byRain_9 (p1 : Int32) (p2 : Int32) (p3 : Int32) (p4 : Int32) (Q : Int64 → (Nat → Int32) → (Nat → Int32) → Prop) (n : Nat) : (Nat → Int32) → (Nat → Int32) → Int64 → Int64 → Int32 → Prop :=
  Nat.rec (motive := fun _ => (Nat → Int32) → (Nat → Int32) → Int64 → Int64 → Int32 → Prop) (fun _ _ _ _ _ => False) (fun _ k => wbX7_byRain_9 p1 p2 p3 p4 Q  k) n
def wpX7_byRain (f : Nat → Int32) (st : Nat → Int32) (p1 : Int32) (p2 : Int32) (p3 : Int32) (p4 : Int32) (Q : Int64 → (Nat → Int32) → (Nat → Int32) → Prop) : Prop :=
  (∃ n : Nat, wpX7_byRain_9 p1 p2 p3 p4 Q  n f st (0 : Int64) (1 : Int64) (0 : Int32))
set_option maxHeartbeats 4000000 in
theorem metX7_byRain (l : Launch) (D : va_G) (kk : Nat → ClassId) (am : Nat → Nat) (sz : Nat) (f : Nat → Int32) (st : Nat → Int32) (p1 : Int32) (p2 : Int32) (p3 : Int32) (p4 : Int32) (Q : Int64 → (Nat → Int32) → (Nat → Int32) → Prop) (h : wpX7_byRain f st p1 p2 p3 p4 Q) : Met l yX7_byRain (ws_ yX7_byRain cX7_byRain 15 (some .long)) { frames := 4, cells := 0, slots := 0, locals := 99 } (va_Pc ([.ref (am 0), .int p1, .int p2, .int p3, .int p4] : List Value) (zPc D kk [zM am f, zA (kk 1) (am 1) 252 st] sz)) (va_Ql (fun (r : Int64) (u : (Nat → Int32) × (Nat → Int32)) => Q r u.1 u.2) (zB D (va_A [zM am f, zA (kk 1) (am 1) 252 st] sz) (fun u : (Nat → Int32) × (Nat → Int32) => [zM am u.1, zA (kk 1) (am 1) 252 u.2])) (va_A [zM am f, zA (kk 1) (am 1) 252 st] sz)) 0 0 (va_A [zM am f, zA (kk 1) (am 1) 252 st] sz) := by
  refine zMet (Qc := fun A => va_Ql (fun (r : Int64) (u : (Nat → Int32) × (Nat → Int32)) => Q r u.1 u.2) (zB D A (fun u : (Nat → Int32) × (Nat → Int32) => [zM am u.1, zA (kk 1) (am 1) 252 u.2])) A) (by decide) (Nat.le_of_ble_eq_true rfl) ?_
  intro p e s m below meth c A X hP hD hS ls hl
  obtain ⟨hx, hb, hr, hml, hown, hts, hlk, hnm, hK, hN, hA⟩ := X
  have hown : s.vm.findClass "LoseLeagueModel" = some m.cls := hown
  have hl : lv_has ls 15 [(0, .ref (am 0)), (1, .int p1), (2, .int p2), (3, .int p3), (4, .int p4)] := hl
  unfold wpX7_byRain at h
  refine lv_lconst (v := (0 : Int64)) hx hb dX7_byRain_0 (by decide) ?_
  refine lv_lstore (lv' := [(5, .long (0 : Int64)), (0, .ref (am 0)), (1, .int p1), (2, .int p2), (3, .int p3), (4, .int p4)]) hx hb dX7_byRain_1 hl (by decide) rfl (fun ls hl => ?_)
  refine lv_lconst (v := (1 : Int64)) hx hb dX7_byRain_3 (by decide) ?_
  refine lv_lstore (lv' := [(7, .long (1 : Int64)), (5, .long (0 : Int64)), (0, .ref (am 0)), (1, .int p1), (2, .int p2), (3, .int p3), (4, .int p4)]) hx hb dX7_byRain_4 hl (by decide) rfl (fun ls hl => ?_)
  refine lv_iconst (v := (0 : Int32)) hx hb dX7_byRain_6 (by decide) ?_
  have cut_9 : ∀ (nl9 : Nat) (f : Nat → Int32) (st : Nat → Int32) (x5 : Int64) (x7 : Int64) (x9 : Int32), wpX7_byRain_9 p1 p2 p3 p4 Q  nl9 f st x5 x7 x9 → ∀ (H : Heap) (locs : List Loc), va_P D vwCl [zM am f, zA (kk 1) (am 1) 252 st] H → va_D A [zM am f, zA (kk 1) (am 1) 252 st] → va_S A s.heap H locs → ∀ ls : Array Slot, lv_has ls 15 [(5, .long x5), (7, .long x7), (9, .int x9), (0, .ref (am 0)), (1, .int p1), (2, .int p2), (3, .int p3), (4, .int p4)] → W p l e { frames := 4, cells := 0, slots := 0, locals := 99 } s m ([.ref (am 0), .int p1, .int p2, .int p3, .int p4] : List Value).toArray below meth c H locs 0 0 (MQ below (va_Ql (fun (r : Int64) (u : (Nat → Int32) × (Nat → Int32)) => Q r u.1 u.2) (zB D A (fun u : (Nat → Int32) × (Nat → Int32) => [zM am u.1, zA (kk 1) (am 1) 252 u.2])) A) ([.ref (am 0), .int p1, .int p2, .int p3, .int p4] : List Value).toArray s 0 0 A) (F0 m 9 ls []) := by
    intro nl9
    induction nl9 with
    | zero => intro f st x5 x7 x9 h; exact absurd h id
    | succ nl9 ih_9 =>
      intro f st x5 x7 x9 h H locs hP hD hS ls hl
      have h : wbX7_byRain_9 p1 p2 p3 p4 Q  (wpX7_byRain_9 p1 p2 p3 p4 Q  nl9) f st x5 x7 x9 := h
      unfold wbX7_byRain_9 at h
      refine lv_iload hx hb dX7_byRain_9 (lv_at hl 2 rfl) ?_
      refine lv_iload_n hx hb dX7_byRain_11 rfl (lv_at hl 6 rfl) ?_
      refine lv_icmp_ge (tgt := 29) hx hb dX7_byRain_12 (by decide) (fun c_1 => ?_) (fun c_1 => ?_)
      · have h := h.1 c_1
        refine lv_iconst (v := (0 : Int32)) hx hb dX7_byRain_29 (by decide) ?_
        have cut_32 : ∀ (nl32 : Nat) (f : Nat → Int32) (st : Nat → Int32) (x5 : Int64) (x7 : Int64) (x9 : Int32), wpX7_byRain_32 p1 p2 p3 p4 Q (wpX7_byRain_9 p1 p2 p3 p4 Q  nl9) nl32 f st x5 x7 x9 → ∀ (H : Heap) (locs : List Loc), va_P D vwCl [zM am f, zA (kk 1) (am 1) 252 st] H → va_D A [zM am f, zA (kk 1) (am 1) 252 st] → va_S A s.heap H locs → ∀ ls : Array Slot, lv_has ls 15 [(5, .long x5), (7, .long x7), (9, .int x9), (0, .ref (am 0)), (1, .int p1), (2, .int p2), (3, .int p3), (4, .int p4)] → W p l e { frames := 4, cells := 0, slots := 0, locals := 99 } s m ([.ref (am 0), .int p1, .int p2, .int p3, .int p4] : List Value).toArray below meth c H locs 0 0 (MQ below (va_Ql (fun (r : Int64) (u : (Nat → Int32) × (Nat → Int32)) => Q r u.1 u.2) (zB D A (fun u : (Nat → Int32) × (Nat → Int32) => [zM am u.1, zA (kk 1) (am 1) 252 u.2])) A) ([.ref (am 0), .int p1, .int p2, .int p3, .int p4] : List Value).toArray s 0 0 A) (F0 m 32 ls []) := by
          intro nl32
          induction nl32 with
          | zero => intro f st x5 x7 x9 h; exact absurd h id
          | succ nl32 ih_32 =>
            intro f st x5 x7 x9 h H locs hP hD hS ls hl
            have h : wbX7_byRain_32 p1 p2 p3 p4 Q (wpX7_byRain_9 p1 p2 p3 p4 Q  nl9) (wpX7_byRain_32 p1 p2 p3 p4 Q (wpX7_byRain_9 p1 p2 p3 p4 Q  nl9) nl32) f st x5 x7 x9 := h
            unfold wbX7_byRain_32 at h
            refine lv_iload hx hb dX7_byRain_32 (lv_at hl 2 rfl) ?_
            refine lv_iconst (v := (1 : Int32)) hx hb dX7_byRain_34 (by decide) ?_
            refine lv_iload_n hx hb dX7_byRain_35 rfl (lv_at hl 6 rfl) ?_
            refine lv_ishl hx hb dX7_byRain_36 ?_
            refine lv_icmp_ge (tgt := 177) hx hb dX7_byRain_37 (by decide) (fun c_2 => ?_) (fun c_2 => ?_)
            · have h := h.1 c_2
              refine lv_lload hx hb dX7_byRain_177 (lv_at hl 0 rfl) ?_
              refine lv_lload hx hb dX7_byRain_179 (lv_at hl 1 rfl) ?_
              refine lv_iload hx hb dX7_byRain_181 (lv_at hl 7 rfl) ?_
              refine zc_l (wc := []) (wr := [zM am f, zA (kk 1) (am 1) 252 st]) (w1 := (fun u : Unit => [])) (rest := []) [] [0, 1] rfl rfl (by decide) (by decide) (by decide) hA hP hD hS (fun hP hD => va_runS (As := [.long x5, .long x7, .int p4]) (rest := []) ⟨hx, hb, hml, hown, hts⟩ (metX7_lowest l D kk _ x5 x7 p4 _ h) (va_cwS 3 hts (lw_S q1250 q1251 q71 q1252) rfl rfl rfl pdX7_lowest.2 ⟨(Nat.le_of_ble_eq_true rfl), (Nat.le_of_ble_eq_true rfl)⟩) (zp_S hK hN hP hD) rfl rfl hl.1 rfl (lv_room (Nat.le_of_ble_eq_true rfl)) dX7_byRain_183 ⟨(Nat.le_of_ble_eq_true rfl), (Nat.le_of_ble_eq_true rfl)⟩) (fun r_3 u H locs h hP hD hS => ?_)
              try dsimp only at h
              have hP : va_P D vwCl [zM am f, zA (kk 1) (am 1) 252 st] H := hP
              have hD : va_D A [zM am f, zA (kk 1) (am 1) 252 st] := hD
              exact zr_l hx hb hr hlk hP hD hS (f, st) [0, 1] rfl (by decide) dX7_byRain_186 h
            · have h := h.2 c_2
              refine lv_lconst (v := (1 : Int64)) hx hb dX7_byRain_40 (by decide) ?_
              refine lv_lstore (lv' := [(10, .long (1 : Int64)), (5, .long x5), (7, .long x7), (9, .int x9), (0, .ref (am 0)), (1, .int p1), (2, .int p2), (3, .int p3), (4, .int p4)]) hx hb dX7_byRain_41 hl (by decide) rfl (fun ls hl => ?_)
              refine lv_iconst (v := (0 : Int32)) hx hb dX7_byRain_43 (by decide) ?_
              refine lv_istore (lv' := [(12, .int (0 : Int32)), (10, .long (1 : Int64)), (5, .long x5), (7, .long x7), (9, .int x9), (0, .ref (am 0)), (1, .int p1), (2, .int p2), (3, .int p3), (4, .int p4)]) hx hb dX7_byRain_44 hl (by decide) rfl (fun ls hl => ?_)
              refine lv_aload_n hx hb dX7_byRain_46 rfl (lv_at hl 5 rfl) ?_
              refine lv_iconst (v := (0 : Int32)) hx hb dX7_byRain_47 (by decide) ?_
              refine lv_sipush (v := (168 : Int32)) hx hb dX7_byRain_48 (by decide) ?_
              have hrc := va_recv hK hP (ci := 7) (q0 := 0) rfl rfl
              refine zc_v (wc := [zM am f, zA (kk 1) (am 1) 252 st]) (wr := []) (w1 := (fun u : (Nat → Int32) => [zM am f, zA (kk 1) (am 1) 252 u])) (rest := []) [0, 1] [] rfl rfl (by decide) (by decide) (by decide) hA hP hD hS (fun hP hD => va_runV (As := [.int (0 : Int32), .int (168 : Int32)]) (rest := []) ⟨hx, hb, hml, hown, hts⟩ (metX7_copies l D kk am _ f st (0 : Int32) (168 : Int32) _ h) (cwV 2 hts (lw_V q1189 q1191 qs57 q71 q1192) rfl rfl rfl pdX7_copies ⟨(Nat.le_of_ble_eq_true rfl), (Nat.le_of_ble_eq_true rfl)⟩) (zp_V hK hN hrc hP hD) rfl rfl hl.1 rfl (lv_room (Nat.le_of_ble_eq_true rfl)) dX7_byRain_51 ⟨(Nat.le_of_ble_eq_true rfl), (Nat.le_of_ble_eq_true rfl)⟩) (fun u H locs h hP hD hS => ?_)
              obtain ⟨st_5, rfl⟩ : ∃ z, z = u := ⟨_, rfl⟩
              try dsimp only at h
              have hP : va_P D vwCl [zM am f, zA (kk 1) (am 1) 252 st_5] H := hP
              have hD : va_D A [zM am f, zA (kk 1) (am 1) 252 st_5] := hD
              refine lv_iconst (v := (0 : Int32)) hx hb dX7_byRain_54 (by decide) ?_
              have cut_57 : ∀ (nl57 : Nat) (f : Nat → Int32) (st : Nat → Int32) (x5 : Int64) (x7 : Int64) (x9 : Int32) (x10 : Int64) (x12 : Int32) (x13 : Int32), wpX7_byRain_57 p1 p2 p3 p4 Q (wpX7_byRain_9 p1 p2 p3 p4 Q  nl9) (wpX7_byRain_32 p1 p2 p3 p4 Q (wpX7_byRain_9 p1 p2 p3 p4 Q  nl9) nl32) nl57 f st x5 x7 x9 x10 x12 x13 → ∀ (H : Heap) (locs : List Loc), va_P D vwCl [zM am f, zA (kk 1) (am 1) 252 st] H → va_D A [zM am f, zA (kk 1) (am 1) 252 st] → va_S A s.heap H locs → ∀ ls : Array Slot, lv_has ls 15 [(5, .long x5), (7, .long x7), (9, .int x9), (10, .long x10), (12, .int x12), (13, .int x13), (0, .ref (am 0)), (1, .int p1), (2, .int p2), (3, .int p3), (4, .int p4)] → W p l e { frames := 4, cells := 0, slots := 0, locals := 99 } s m ([.ref (am 0), .int p1, .int p2, .int p3, .int p4] : List Value).toArray below meth c H locs 0 0 (MQ below (va_Ql (fun (r : Int64) (u : (Nat → Int32) × (Nat → Int32)) => Q r u.1 u.2) (zB D A (fun u : (Nat → Int32) × (Nat → Int32) => [zM am u.1, zA (kk 1) (am 1) 252 u.2])) A) ([.ref (am 0), .int p1, .int p2, .int p3, .int p4] : List Value).toArray s 0 0 A) (F0 m 57 ls []) := by
                intro nl57
                induction nl57 with
                | zero => intro f st x5 x7 x9 x10 x12 x13 h; exact absurd h id
                | succ nl57 ih_57 =>
                  intro f st x5 x7 x9 x10 x12 x13 h H locs hP hD hS ls hl
                  have h : wbX7_byRain_57 p1 p2 p3 p4 Q (wpX7_byRain_9 p1 p2 p3 p4 Q  nl9) (wpX7_byRain_32 p1 p2 p3 p4 Q (wpX7_byRain_9 p1 p2 p3 p4 Q  nl9) nl32) (wpX7_byRain_57 p1 p2 p3 p4 Q (wpX7_byRain_9 p1 p2 p3 p4 Q  nl9) (wpX7_byRain_32 p1 p2 p3 p4 Q (wpX7_byRain_9 p1 p2 p3 p4 Q  nl9) nl32) nl57) f st x5 x7 x9 x10 x12 x13 := h
                  unfold wbX7_byRain_57 at h
                  refine lv_iload hx hb dX7_byRain_57 (lv_at hl 5 rfl) ?_
                  refine lv_iload_n hx hb dX7_byRain_59 rfl (lv_at hl 9 rfl) ?_
                  refine lv_icmp_ge (tgt := 140) hx hb dX7_byRain_60 (by decide) (fun c_6 => ?_) (fun c_6 => ?_)
                  · have h := h.1 c_6
                    refine lv_lload hx hb dX7_byRain_140 (lv_at hl 0 rfl) ?_
                    refine lv_lload hx hb dX7_byRain_142 (lv_at hl 3 rfl) ?_
                    refine lv_iload_n hx hb dX7_byRain_144 rfl (lv_at hl 8 rfl) ?_
                    refine lv_bipush (v := (-4 : Int32)) hx hb dX7_byRain_145 (by decide) ?_
                    have cut_166 : ∀ (f : Nat → Int32) (st : Nat → Int32) (x7 : Int64) (x9 : Int32) (s2 : Int32) (s1 : Int64) (s0 : Int64), wpX7_byRain_166 p1 p2 p3 p4 Q (wpX7_byRain_9 p1 p2 p3 p4 Q  nl9) (wpX7_byRain_32 p1 p2 p3 p4 Q (wpX7_byRain_9 p1 p2 p3 p4 Q  nl9) nl32) (wpX7_byRain_57 p1 p2 p3 p4 Q (wpX7_byRain_9 p1 p2 p3 p4 Q  nl9) (wpX7_byRain_32 p1 p2 p3 p4 Q (wpX7_byRain_9 p1 p2 p3 p4 Q  nl9) nl32) nl57) f st x7 x9 s2 s1 s0 → ∀ (H : Heap) (locs : List Loc), va_P D vwCl [zM am f, zA (kk 1) (am 1) 252 st] H → va_D A [zM am f, zA (kk 1) (am 1) 252 st] → va_S A s.heap H locs → ∀ ls : Array Slot, lv_has ls 15 [(7, .long x7), (9, .int x9), (0, .ref (am 0)), (1, .int p1), (2, .int p2), (3, .int p3), (4, .int p4)] → W p l e { frames := 4, cells := 0, slots := 0, locals := 99 } s m ([.ref (am 0), .int p1, .int p2, .int p3, .int p4] : List Value).toArray below meth c H locs 0 0 (MQ below (va_Ql (fun (r : Int64) (u : (Nat → Int32) × (Nat → Int32)) => Q r u.1 u.2) (zB D A (fun u : (Nat → Int32) × (Nat → Int32) => [zM am u.1, zA (kk 1) (am 1) 252 u.2])) A) ([.ref (am 0), .int p1, .int p2, .int p3, .int p4] : List Value).toArray s 0 0 A) (F0 m 166 ls [.int s2, .long s1, .long s0]) := by
                      intro f st x7 x9 s2 s1 s0 h H locs hP hD hS ls hl
                      unfold wpX7_byRain_166 at h
                      refine lv_i2l hx hb dX7_byRain_166 rfl ?_
                      refine lv_lmul hx hb dX7_byRain_167 ?_
                      refine lv_ladd hx hb dX7_byRain_168 ?_
                      refine lv_lstore (lv' := [(5, .long (s0 + (s1 * (s2.toInt64)))), (7, .long x7), (9, .int x9), (0, .ref (am 0)), (1, .int p1), (2, .int p2), (3, .int p3), (4, .int p4)]) hx hb dX7_byRain_169 hl (by decide) rfl (fun ls hl => ?_)
                      refine lv_iinc (v := (x9 + 1)) (lv' := [(9, .int (x9 + 1)), (5, .long (s0 + (s1 * (s2.toInt64)))), (7, .long x7), (0, .ref (am 0)), (1, .int p1), (2, .int p2), (3, .int p3), (4, .int p4)]) hx hb dX7_byRain_171 hl (k := 2) rfl rfl (by decide) rfl (fun ls hl => ?_)
                      refine lv_goto (tgt := 32) hx hb dX7_byRain_174 (by decide) ?_
                      exact ih_32 f st (s0 + (s1 * (s2.toInt64))) x7 (x9 + 1) h _ _ hP hD hS _ (lv_sub hl [1, 2, 0, 3, 4, 5, 6, 7] rfl)
                    refine lv_icmp_ne (tgt := 160) hx hb dX7_byRain_147 (by decide) (fun c_7 => ?_) (fun c_7 => ?_)
                    · have h := h.2 c_7
                      refine lv_iload hx hb dX7_byRain_160 (lv_at hl 4 rfl) ?_
                      refine lv_iload_n hx hb dX7_byRain_162 rfl (lv_at hl 8 rfl) ?_
                      refine lv_ishr hx hb dX7_byRain_163 ?_
                      refine lv_iconst (v := (1 : Int32)) hx hb dX7_byRain_164 (by decide) ?_
                      refine lv_iand hx hb dX7_byRain_165 ?_
                      exact cut_166 f st x7 x9 ((x12 >>> (p2 &&& 31)) &&& (1 : Int32)) x10 x5 h _ _ hP hD hS _ (lv_sub hl [1, 2, 6, 7, 8, 9, 10] rfl)
                    · have h := h.1 c_7
                      refine lv_aload_n hx hb dX7_byRain_150 rfl (lv_at hl 6 rfl) ?_
                      refine lv_sipush (v := (168 : Int32)) hx hb dX7_byRain_151 (by decide) ?_
                      have hrc := va_recv hK hP (ci := 7) (q0 := 0) rfl rfl
                      refine zc_i (wc := [zM am f, zA (kk 1) (am 1) 252 st]) (wr := []) (w1 := (fun u : Unit => [zM am f, zA (kk 1) (am 1) 252 st])) (rest := [.long x10, .long x5]) [0, 1] [] rfl rfl (by decide) (by decide) (by decide) hA hP hD hS (fun hP hD => va_runV (As := [.int (168 : Int32)]) (rest := [.long x10, .long x5]) ⟨hx, hb, hml, hown, hts⟩ (metX7_owedOn l D kk am _ f st (168 : Int32) _ h) (cwV 1 hts (lw_V q1097 q1099 qs44 q71 q1100) rfl rfl rfl pdX7_owedOn ⟨(Nat.le_of_ble_eq_true rfl), (Nat.le_of_ble_eq_true rfl)⟩) (zp_V hK hN hrc hP hD) rfl rfl hl.1 rfl (lv_room (Nat.le_of_ble_eq_true rfl)) dX7_byRain_154 ⟨(Nat.le_of_ble_eq_true rfl), (Nat.le_of_ble_eq_true rfl)⟩) (fun r_8 u H locs h hP hD hS => ?_)
                      try dsimp only at h
                      have hP : va_P D vwCl [zM am f, zA (kk 1) (am 1) 252 st] H := hP
                      have hD : va_D A [zM am f, zA (kk 1) (am 1) 252 st] := hD
                      refine lv_goto (tgt := 166) hx hb dX7_byRain_157 (by decide) ?_
                      exact cut_166 f st x7 x9 r_8 x10 x5 h _ _ hP hD hS _ (lv_sub hl [1, 2, 6, 7, 8, 9, 10] rfl)
                  · have h := h.2 c_6
                    refine lv_iload hx hb dX7_byRain_63 (lv_at hl 2 rfl) ?_
                    refine lv_iload hx hb dX7_byRain_65 (lv_at hl 5 rfl) ?_
                    refine lv_ishr hx hb dX7_byRain_67 ?_
                    refine lv_iconst (v := (1 : Int32)) hx hb dX7_byRain_68 (by decide) ?_
                    refine lv_iand hx hb dX7_byRain_69 ?_
                    refine lv_iconst (v := (1 : Int32)) hx hb dX7_byRain_70 (by decide) ?_
                    have cut_79 : ∀ (f : Nat → Int32) (st : Nat → Int32) (x5 : Int64) (x7 : Int64) (x9 : Int32) (x10 : Int64) (x12 : Int32) (x13 : Int32) (s0 : Int32), wpX7_byRain_79 p1 p2 p3 p4 Q (wpX7_byRain_9 p1 p2 p3 p4 Q  nl9) (wpX7_byRain_32 p1 p2 p3 p4 Q (wpX7_byRain_9 p1 p2 p3 p4 Q  nl9) nl32) (wpX7_byRain_57 p1 p2 p3 p4 Q (wpX7_byRain_9 p1 p2 p3 p4 Q  nl9) (wpX7_byRain_32 p1 p2 p3 p4 Q (wpX7_byRain_9 p1 p2 p3 p4 Q  nl9) nl32) nl57) f st x5 x7 x9 x10 x12 x13 s0 → ∀ (H : Heap) (locs : List Loc), va_P D vwCl [zM am f, zA (kk 1) (am 1) 252 st] H → va_D A [zM am f, zA (kk 1) (am 1) 252 st] → va_S A s.heap H locs → ∀ ls : Array Slot, lv_has ls 15 [(5, .long x5), (7, .long x7), (9, .int x9), (10, .long x10), (12, .int x12), (13, .int x13), (0, .ref (am 0)), (1, .int p1), (2, .int p2), (3, .int p3), (4, .int p4)] → W p l e { frames := 4, cells := 0, slots := 0, locals := 99 } s m ([.ref (am 0), .int p1, .int p2, .int p3, .int p4] : List Value).toArray below meth c H locs 0 0 (MQ below (va_Ql (fun (r : Int64) (u : (Nat → Int32) × (Nat → Int32)) => Q r u.1 u.2) (zB D A (fun u : (Nat → Int32) × (Nat → Int32) => [zM am u.1, zA (kk 1) (am 1) 252 u.2])) A) ([.ref (am 0), .int p1, .int p2, .int p3, .int p4] : List Value).toArray s 0 0 A) (F0 m 79 ls [.int s0]) := by
                      intro f st x5 x7 x9 x10 x12 x13 s0 h H locs hP hD hS ls hl
                      unfold wpX7_byRain_79 at h
                      refine lv_istore (lv' := [(14, .int s0), (5, .long x5), (7, .long x7), (9, .int x9), (10, .long x10), (12, .int x12), (13, .int x13), (0, .ref (am 0)), (1, .int p1), (2, .int p2), (3, .int p3), (4, .int p4)]) hx hb dX7_byRain_79 hl (by decide) rfl (fun ls hl => ?_)
                      refine lv_lload hx hb dX7_byRain_81 (lv_at hl 4 rfl) ?_
                      refine lv_iload hx hb dX7_byRain_83 (lv_at hl 0 rfl) ?_
                      have cut_98 : ∀ (f : Nat → Int32) (st : Nat → Int32) (x5 : Int64) (x7 : Int64) (x9 : Int32) (x12 : Int32) (x13 : Int32) (x14 : Int32) (s1 : Int64) (s0 : Int64), wpX7_byRain_98 p1 p2 p3 p4 Q (wpX7_byRain_9 p1 p2 p3 p4 Q  nl9) (wpX7_byRain_32 p1 p2 p3 p4 Q (wpX7_byRain_9 p1 p2 p3 p4 Q  nl9) nl32) (wpX7_byRain_57 p1 p2 p3 p4 Q (wpX7_byRain_9 p1 p2 p3 p4 Q  nl9) (wpX7_byRain_32 p1 p2 p3 p4 Q (wpX7_byRain_9 p1 p2 p3 p4 Q  nl9) nl32) nl57) f st x5 x7 x9 x12 x13 x14 s1 s0 → ∀ (H : Heap) (locs : List Loc), va_P D vwCl [zM am f, zA (kk 1) (am 1) 252 st] H → va_D A [zM am f, zA (kk 1) (am 1) 252 st] → va_S A s.heap H locs → ∀ ls : Array Slot, lv_has ls 15 [(5, .long x5), (7, .long x7), (9, .int x9), (12, .int x12), (13, .int x13), (14, .int x14), (0, .ref (am 0)), (1, .int p1), (2, .int p2), (3, .int p3), (4, .int p4)] → W p l e { frames := 4, cells := 0, slots := 0, locals := 99 } s m ([.ref (am 0), .int p1, .int p2, .int p3, .int p4] : List Value).toArray below meth c H locs 0 0 (MQ below (va_Ql (fun (r : Int64) (u : (Nat → Int32) × (Nat → Int32)) => Q r u.1 u.2) (zB D A (fun u : (Nat → Int32) × (Nat → Int32) => [zM am u.1, zA (kk 1) (am 1) 252 u.2])) A) ([.ref (am 0), .int p1, .int p2, .int p3, .int p4] : List Value).toArray s 0 0 A) (F0 m 98 ls [.long s1, .long s0]) := by
                        intro f st x5 x7 x9 x12 x13 x14 s1 s0 h H locs hP hD hS ls hl
                        unfold wpX7_byRain_98 at h
                        refine lv_lmul hx hb dX7_byRain_98 ?_
                        refine lv_lstore (lv' := [(10, .long (s0 * s1)), (5, .long x5), (7, .long x7), (9, .int x9), (12, .int x12), (13, .int x13), (14, .int x14), (0, .ref (am 0)), (1, .int p1), (2, .int p2), (3, .int p3), (4, .int p4)]) hx hb dX7_byRain_99 hl (by decide) rfl (fun ls hl => ?_)
                        refine lv_aload_n hx hb dX7_byRain_101 rfl (lv_at hl 7 rfl) ?_
                        refine lv_sipush (v := (168 : Int32)) hx hb dX7_byRain_102 (by decide) ?_
                        refine lv_iload hx hb dX7_byRain_105 (lv_at hl 6 rfl) ?_
                        have hrc := va_recv hK hP (ci := 7) (q0 := 0) rfl rfl
                        refine zc_v (wc := [zM am f, zA (kk 1) (am 1) 252 st]) (wr := []) (w1 := (fun u : (Nat → Int32) × (Nat → Int32) => [zM am u.1, zA (kk 1) (am 1) 252 u.2])) (rest := []) [0, 1] [] rfl rfl (by decide) (by decide) (by decide) hA hP hD hS (fun hP hD => va_runV (As := [.int (168 : Int32), .int x14]) (rest := []) ⟨hx, hb, hml, hown, hts⟩ (metX7_weekOn l D kk am _ f st (168 : Int32) x14 _ h) (cwV 2 hts (lw_V q1168 q1170 qs53 q71 q1171) rfl rfl rfl pdX7_weekOn ⟨(Nat.le_of_ble_eq_true rfl), (Nat.le_of_ble_eq_true rfl)⟩) (zp_V hK hN hrc hP hD) rfl rfl hl.1 rfl (lv_room (Nat.le_of_ble_eq_true rfl)) dX7_byRain_107 ⟨(Nat.le_of_ble_eq_true rfl), (Nat.le_of_ble_eq_true rfl)⟩) (fun u H locs h hP hD hS => ?_)
                        obtain ⟨f_10, st_11⟩ := u
                        try dsimp only at h
                        have hP : va_P D vwCl [zM am f_10, zA (kk 1) (am 1) 252 st_11] H := hP
                        have hD : va_D A [zM am f_10, zA (kk 1) (am 1) 252 st_11] := hD
                        refine lv_iload hx hb dX7_byRain_110 (lv_at hl 4 rfl) ?_
                        refine lv_aload_n hx hb dX7_byRain_112 rfl (lv_at hl 7 rfl) ?_
                        refine va_get (D := D) (ci := 7) (v := .int (f_10 16)) (C := RX7) (T := TX7) (N := 29) hx hb hts in_X7 hown hK hP 0 rfl rfl 16 (Nat.le_of_ble_eq_true rfl) (hts _ q955) (fun _ h9 => h9) rfl dX7_byRain_113 ?_
                        refine lv_bipush (v := (-4 : Int32)) hx hb dX7_byRain_116 (by decide) ?_
                        have cut_131 : ∀ (f : Nat → Int32) (st : Nat → Int32) (x5 : Int64) (x7 : Int64) (x9 : Int32) (x10 : Int64) (x13 : Int32) (s1 : Int32) (s0 : Int32), wpX7_byRain_131 p1 p2 p3 p4 Q (wpX7_byRain_9 p1 p2 p3 p4 Q  nl9) (wpX7_byRain_32 p1 p2 p3 p4 Q (wpX7_byRain_9 p1 p2 p3 p4 Q  nl9) nl32) (wpX7_byRain_57 p1 p2 p3 p4 Q (wpX7_byRain_9 p1 p2 p3 p4 Q  nl9) (wpX7_byRain_32 p1 p2 p3 p4 Q (wpX7_byRain_9 p1 p2 p3 p4 Q  nl9) nl32) nl57) f st x5 x7 x9 x10 x13 s1 s0 → ∀ (H : Heap) (locs : List Loc), va_P D vwCl [zM am f, zA (kk 1) (am 1) 252 st] H → va_D A [zM am f, zA (kk 1) (am 1) 252 st] → va_S A s.heap H locs → ∀ ls : Array Slot, lv_has ls 15 [(5, .long x5), (7, .long x7), (9, .int x9), (10, .long x10), (13, .int x13), (0, .ref (am 0)), (1, .int p1), (2, .int p2), (3, .int p3), (4, .int p4)] → W p l e { frames := 4, cells := 0, slots := 0, locals := 99 } s m ([.ref (am 0), .int p1, .int p2, .int p3, .int p4] : List Value).toArray below meth c H locs 0 0 (MQ below (va_Ql (fun (r : Int64) (u : (Nat → Int32) × (Nat → Int32)) => Q r u.1 u.2) (zB D A (fun u : (Nat → Int32) × (Nat → Int32) => [zM am u.1, zA (kk 1) (am 1) 252 u.2])) A) ([.ref (am 0), .int p1, .int p2, .int p3, .int p4] : List Value).toArray s 0 0 A) (F0 m 131 ls [.int s1, .int s0]) := by
                          intro f st x5 x7 x9 x10 x13 s1 s0 h H locs hP hD hS ls hl
                          unfold wpX7_byRain_131 at h
                          refine lv_ior hx hb dX7_byRain_131 ?_
                          refine lv_istore (lv' := [(12, .int (s0 ||| s1)), (5, .long x5), (7, .long x7), (9, .int x9), (10, .long x10), (13, .int x13), (0, .ref (am 0)), (1, .int p1), (2, .int p2), (3, .int p3), (4, .int p4)]) hx hb dX7_byRain_132 hl (by decide) rfl (fun ls hl => ?_)
                          refine lv_iinc (v := (x13 + 1)) (lv' := [(13, .int (x13 + 1)), (12, .int (s0 ||| s1)), (5, .long x5), (7, .long x7), (9, .int x9), (10, .long x10), (0, .ref (am 0)), (1, .int p1), (2, .int p2), (3, .int p3), (4, .int p4)]) hx hb dX7_byRain_134 hl (k := 5) rfl rfl (by decide) rfl (fun ls hl => ?_)
                          refine lv_goto (tgt := 57) hx hb dX7_byRain_137 (by decide) ?_
                          exact ih_57 f st x5 x7 x9 x10 (s0 ||| s1) (x13 + 1) h _ _ hP hD hS _ (lv_sub hl [2, 3, 4, 5, 1, 0, 6, 7, 8, 9, 10] rfl)
                        refine lv_icmp_ne (tgt := 125) hx hb dX7_byRain_118 (by decide) (fun c_12 => ?_) (fun c_12 => ?_)
                        · have h := h.2 c_12
                          refine lv_iconst (v := (1 : Int32)) hx hb dX7_byRain_125 (by decide) ?_
                          refine lv_aload_n hx hb dX7_byRain_126 rfl (lv_at hl 7 rfl) ?_
                          refine va_get (D := D) (ci := 7) (v := .int (f_10 16)) (C := RX7) (T := TX7) (N := 29) hx hb hts in_X7 hown hK hP 0 rfl rfl 16 (Nat.le_of_ble_eq_true rfl) (hts _ q955) (fun _ h9 => h9) rfl dX7_byRain_127 ?_
                          refine lv_ishl hx hb dX7_byRain_130 ?_
                          exact cut_131 f_10 st_11 x5 x7 x9 (s0 * s1) x13 ((1 : Int32) <<< ((f_10 16) &&& 31)) x12 h _ _ hP hD hS _ (lv_sub hl [1, 2, 3, 0, 5, 7, 8, 9, 10, 11] rfl)
                        · have h := h.1 c_12
                          refine lv_iconst (v := (0 : Int32)) hx hb dX7_byRain_121 (by decide) ?_
                          refine lv_goto (tgt := 131) hx hb dX7_byRain_122 (by decide) ?_
                          exact cut_131 f_10 st_11 x5 x7 x9 (s0 * s1) x13 (0 : Int32) x12 h _ _ hP hD hS _ (lv_sub hl [1, 2, 3, 0, 5, 7, 8, 9, 10, 11] rfl)
                      refine lv_if_eq (tgt := 93) hx hb dX7_byRain_85 (by decide) (fun c_13 => ?_) (fun c_13 => ?_)
                      · have h := h.1 c_13
                        refine lv_bipush (v := (10 : Int32)) hx hb dX7_byRain_93 (by decide) ?_
                        refine lv_iload_n hx hb dX7_byRain_95 rfl (lv_at hl 8 rfl) ?_
                        refine lv_isub hx hb dX7_byRain_96 ?_
                        refine lv_i2l hx hb dX7_byRain_97 rfl ?_
                        exact cut_98 f st x5 x7 x9 x12 x13 s0 (((10 : Int32) - p1).toInt64) x10 h _ _ hP hD hS _ (lv_sub hl [1, 2, 3, 5, 6, 0, 7, 8, 9, 10, 11] rfl)
                      · have h := h.2 c_13
                        refine lv_iload_n hx hb dX7_byRain_88 rfl (lv_at hl 8 rfl) ?_
                        refine lv_i2l hx hb dX7_byRain_89 rfl ?_
                        refine lv_goto (tgt := 98) hx hb dX7_byRain_90 (by decide) ?_
                        exact cut_98 f st x5 x7 x9 x12 x13 s0 (p1.toInt64) x10 h _ _ hP hD hS _ (lv_sub hl [1, 2, 3, 5, 6, 0, 7, 8, 9, 10, 11] rfl)
                    refine lv_icmp_ne (tgt := 78) hx hb dX7_byRain_71 (by decide) (fun c_14 => ?_) (fun c_14 => ?_)
                    · have h := h.2 c_14
                      refine lv_iconst (v := (0 : Int32)) hx hb dX7_byRain_78 (by decide) ?_
                      exact cut_79 f st x5 x7 x9 x10 x12 x13 (0 : Int32) h _ _ hP hD hS _ (lv_sub hl [0, 1, 2, 3, 4, 5, 6, 7, 8, 9, 10] rfl)
                    · have h := h.1 c_14
                      refine lv_iconst (v := (1 : Int32)) hx hb dX7_byRain_74 (by decide) ?_
                      refine lv_goto (tgt := 79) hx hb dX7_byRain_75 (by decide) ?_
                      exact cut_79 f st x5 x7 x9 x10 x12 x13 (1 : Int32) h _ _ hP hD hS _ (lv_sub hl [0, 1, 2, 3, 4, 5, 6, 7, 8, 9, 10] rfl)
              refine lv_istore (lv' := [(13, .int (0 : Int32)), (12, .int (0 : Int32)), (10, .long (1 : Int64)), (5, .long x5), (7, .long x7), (9, .int x9), (0, .ref (am 0)), (1, .int p1), (2, .int p2), (3, .int p3), (4, .int p4)]) hx hb dX7_byRain_55 hl (by decide) rfl (fun ls hl => ?_)
              obtain ⟨n_57, h⟩ := h
              exact cut_57 n_57 f st_5 x5 x7 x9 (1 : Int64) (0 : Int32) (0 : Int32) h _ _ hP hD hS _ (lv_sub hl [3, 4, 5, 2, 1, 0, 6, 7, 8, 9, 10] rfl)
        refine lv_istore (lv' := [(9, .int (0 : Int32)), (5, .long x5), (7, .long x7), (0, .ref (am 0)), (1, .int p1), (2, .int p2), (3, .int p3), (4, .int p4)]) hx hb dX7_byRain_30 hl (by decide) rfl (fun ls hl => ?_)
        obtain ⟨n_32, h⟩ := h
        exact cut_32 n_32 f st x5 x7 (0 : Int32) h _ _ hP hD hS _ (lv_sub hl [1, 2, 0, 3, 4, 5, 6, 7] rfl)
      · have h := h.2 c_1
        refine lv_lload hx hb dX7_byRain_15 (lv_at hl 1 rfl) ?_
        refine lv_ldc2 (v := (10 : Int64)) hx hb hown (hts _ q1214) dX7_byRain_17 ?_
        refine lv_lmul hx hb dX7_byRain_20 ?_
        refine lv_lstore (lv' := [(7, .long (x7 * (10 : Int64))), (5, .long x5), (9, .int x9), (0, .ref (am 0)), (1, .int p1), (2, .int p2), (3, .int p3), (4, .int p4)]) hx hb dX7_byRain_21 hl (by decide) rfl (fun ls hl => ?_)
        refine lv_iinc (v := (x9 + 1)) (lv' := [(9, .int (x9 + 1)), (7, .long (x7 * (10 : Int64))), (5, .long x5), (0, .ref (am 0)), (1, .int p1), (2, .int p2), (3, .int p3), (4, .int p4)]) hx hb dX7_byRain_23 hl (k := 2) rfl rfl (by decide) rfl (fun ls hl => ?_)
        refine lv_goto (tgt := 9) hx hb dX7_byRain_26 (by decide) ?_
        exact ih_9 f st x5 (x7 * (10 : Int64)) (x9 + 1) h _ _ hP hD hS _ (lv_sub hl [2, 1, 0, 3, 4, 5, 6, 7] rfl)
  refine lv_istore (lv' := [(9, .int (0 : Int32)), (7, .long (1 : Int64)), (5, .long (0 : Int64)), (0, .ref (am 0)), (1, .int p1), (2, .int p2), (3, .int p3), (4, .int p4)]) hx hb dX7_byRain_7 hl (by decide) rfl (fun ls hl => ?_)
  obtain ⟨n_9, h⟩ := h
  exact cut_9 n_9 f st (0 : Int64) (1 : Int64) (0 : Int32) h _ _ hP hD hS _ (lv_sub hl [2, 1, 0, 3, 4, 5, 6, 7] rfl)
def wpX7_luck_55 (p1 : Int32) (p2 : Int32) (p3 : Int32) (p4 : Int32) (Q : Int64 → (Nat → Int32) → (Nat → Int32) → Prop) (f : Nat → Int32) (st : Nat → Int32) : Prop :=
  Q (-1 : Int64) f st
def wpX7_luck (f : Nat → Int32) (st : Nat → Int32) (p1 : Int32) (p2 : Int32) (p3 : Int32) (p4 : Int32) (Q : Int64 → (Nat → Int32) → (Nat → Int32) → Prop) : Prop :=
  (wpX7_in (p1.toInt64) (0 : Int64) (10 : Int64) (fun r_1 => ((r_1 = 0 → wpX7_luck_55 p1 p2 p3 p4 Q  f st) ∧ (¬ r_1 = 0 → (wpX7_isTown f p2 (fun r_3 => ((r_3 = 0 → wpX7_luck_55 p1 p2 p3 p4 Q  f st) ∧ (¬ r_3 = 0 → (wpX7_in (p3.toInt64) (0 : Int64) (8 : Int64) (fun r_5 => ((r_5 = 0 → wpX7_luck_55 p1 p2 p3 p4 Q  f st) ∧ (¬ r_5 = 0 → (wpX7_in (p4.toInt64) (0 : Int64) (1 : Int64) (fun r_7 => ((r_7 = 0 → wpX7_luck_55 p1 p2 p3 p4 Q  f st) ∧ (¬ r_7 = 0 → (wpX7_byRain f st p1 p2 p3 p4 (fun r_9 f_10 st_11 => Q r_9 f_10 st_11))))))))))))))))))
set_option maxHeartbeats 4000000 in
theorem metX7_luck (l : Launch) (D : va_G) (kk : Nat → ClassId) (am : Nat → Nat) (sz : Nat) (f : Nat → Int32) (st : Nat → Int32) (p1 : Int32) (p2 : Int32) (p3 : Int32) (p4 : Int32) (Q : Int64 → (Nat → Int32) → (Nat → Int32) → Prop) (h : wpX7_luck f st p1 p2 p3 p4 Q) : Met l yX7_luck (ws_ yX7_luck cX7_luck 5 (some .long)) { frames := 5, cells := 0, slots := 0, locals := 133 } (va_Pc ([.ref (am 0), .int p1, .int p2, .int p3, .int p4] : List Value) (zPc D kk [zM am f, zA (kk 1) (am 1) 252 st] sz)) (va_Ql (fun (r : Int64) (u : (Nat → Int32) × (Nat → Int32)) => Q r u.1 u.2) (zB D (va_A [zM am f, zA (kk 1) (am 1) 252 st] sz) (fun u : (Nat → Int32) × (Nat → Int32) => [zM am u.1, zA (kk 1) (am 1) 252 u.2])) (va_A [zM am f, zA (kk 1) (am 1) 252 st] sz)) 0 0 (va_A [zM am f, zA (kk 1) (am 1) 252 st] sz) := by
  refine zMet (Qc := fun A => va_Ql (fun (r : Int64) (u : (Nat → Int32) × (Nat → Int32)) => Q r u.1 u.2) (zB D A (fun u : (Nat → Int32) × (Nat → Int32) => [zM am u.1, zA (kk 1) (am 1) 252 u.2])) A) (by decide) (Nat.le_of_ble_eq_true rfl) ?_
  intro p e s m below meth c A X hP hD hS ls hl
  obtain ⟨hx, hb, hr, hml, hown, hts, hlk, hnm, hK, hN, hA⟩ := X
  have hown : s.vm.findClass "LoseLeagueModel" = some m.cls := hown
  have hl : lv_has ls 5 [(0, .ref (am 0)), (1, .int p1), (2, .int p2), (3, .int p3), (4, .int p4)] := hl
  unfold wpX7_luck at h
  refine lv_iload_n hx hb dX7_luck_0 rfl (lv_at hl 1 rfl) ?_
  refine lv_i2l hx hb dX7_luck_1 rfl ?_
  refine lv_lconst (v := (0 : Int64)) hx hb dX7_luck_2 (by decide) ?_
  refine lv_ldc2 (v := (10 : Int64)) hx hb hown (hts _ q1214) dX7_luck_3 ?_
  refine zc_i (wc := []) (wr := [zM am f, zA (kk 1) (am 1) 252 st]) (w1 := (fun u : Unit => [])) (rest := []) [] [0, 1] rfl rfl (by decide) (by decide) (by decide) hA hP hD hS (fun hP hD => va_runS (As := [.long (p1.toInt64), .long (0 : Int64), .long (10 : Int64)]) (rest := []) ⟨hx, hb, hml, hown, hts⟩ (metX7_in l D kk _ (p1.toInt64) (0 : Int64) (10 : Int64) _ h) (va_cwS 3 hts (lw_S q1033 q1034 q71 q1035) rfl rfl rfl pdX7_in.2 ⟨(Nat.le_of_ble_eq_true rfl), (Nat.le_of_ble_eq_true rfl)⟩) (zp_S hK hN hP hD) rfl rfl hl.1 rfl (lv_room (Nat.le_of_ble_eq_true rfl)) dX7_luck_6 ⟨(Nat.le_of_ble_eq_true rfl), (Nat.le_of_ble_eq_true rfl)⟩) (fun r_1 u H locs h hP hD hS => ?_)
  try dsimp only at h
  have hP : va_P D vwCl [zM am f, zA (kk 1) (am 1) 252 st] H := hP
  have hD : va_D A [zM am f, zA (kk 1) (am 1) 252 st] := hD
  have cut_55 : ∀ (f : Nat → Int32) (st : Nat → Int32), wpX7_luck_55 p1 p2 p3 p4 Q  f st → ∀ (H : Heap) (locs : List Loc), va_P D vwCl [zM am f, zA (kk 1) (am 1) 252 st] H → va_D A [zM am f, zA (kk 1) (am 1) 252 st] → va_S A s.heap H locs → ∀ ls : Array Slot, lv_has ls 5 [] → W p l e { frames := 5, cells := 0, slots := 0, locals := 133 } s m ([.ref (am 0), .int p1, .int p2, .int p3, .int p4] : List Value).toArray below meth c H locs 0 0 (MQ below (va_Ql (fun (r : Int64) (u : (Nat → Int32) × (Nat → Int32)) => Q r u.1 u.2) (zB D A (fun u : (Nat → Int32) × (Nat → Int32) => [zM am u.1, zA (kk 1) (am 1) 252 u.2])) A) ([.ref (am 0), .int p1, .int p2, .int p3, .int p4] : List Value).toArray s 0 0 A) (F0 m 55 ls []) := by
    intro f st h H locs hP hD hS ls hl
    unfold wpX7_luck_55 at h
    refine lv_ldc2 (v := (-1 : Int64)) hx hb hown (hts _ q1253) dX7_luck_55 ?_
    exact zr_l hx hb hr hlk hP hD hS (f, st) [0, 1] rfl (by decide) dX7_luck_58 h
  refine lv_if_eq (tgt := 55) hx hb dX7_luck_9 (by decide) (fun c_2 => ?_) (fun c_2 => ?_)
  · have h := h.1 c_2
    exact cut_55 f st h _ _ hP hD hS _ (lv_sub hl [] rfl)
  · have h := h.2 c_2
    refine lv_aload_n hx hb dX7_luck_12 rfl (lv_at hl 0 rfl) ?_
    refine lv_iload_n hx hb dX7_luck_13 rfl (lv_at hl 2 rfl) ?_
    have hrc := va_recv hK hP (ci := 7) (q0 := 0) rfl rfl
    refine zc_i (wc := [zM am f]) (wr := [zA (kk 1) (am 1) 252 st]) (w1 := (fun u : Unit => [zM am f])) (rest := []) [0] [1] rfl rfl (by decide) (by decide) (by decide) hA hP hD hS (fun hP hD => va_runV (As := [.int p2]) (rest := []) ⟨hx, hb, hml, hown, hts⟩ (metX7_isTown l D kk am _ f p2 _ h) (cwV 1 hts (lw_V q1105 q1107 qs45 q71 q1108) rfl rfl rfl pdX7_isTown ⟨(Nat.le_of_ble_eq_true rfl), (Nat.le_of_ble_eq_true rfl)⟩) (zp_V hK hN hrc hP hD) rfl rfl hl.1 rfl (lv_room (Nat.le_of_ble_eq_true rfl)) dX7_luck_14 ⟨(Nat.le_of_ble_eq_true rfl), (Nat.le_of_ble_eq_true rfl)⟩) (fun r_3 u H locs h hP hD hS => ?_)
    try dsimp only at h
    have hP : va_P D vwCl [zA (kk 1) (am 1) 252 st, zM am f] H := hP
    have hD : va_D A [zA (kk 1) (am 1) 252 st, zM am f] := hD
    refine lv_if_eq (tgt := 55) hx hb dX7_luck_17 (by decide) (fun c_4 => ?_) (fun c_4 => ?_)
    · have h := h.1 c_4
      exact cut_55 f st h _ _ (hP.sub [1, 0] rfl) (hD.sub [1, 0] (by decide) rfl) hS _ (lv_sub hl [] rfl)
    · have h := h.2 c_4
      refine lv_iload_n hx hb dX7_luck_20 rfl (lv_at hl 3 rfl) ?_
      refine lv_i2l hx hb dX7_luck_21 rfl ?_
      refine lv_lconst (v := (0 : Int64)) hx hb dX7_luck_22 (by decide) ?_
      refine lv_ldc2 (v := (8 : Int64)) hx hb hown (hts _ q1245) dX7_luck_23 ?_
      refine zc_i (wc := []) (wr := [zA (kk 1) (am 1) 252 st, zM am f]) (w1 := (fun u : Unit => [])) (rest := []) [] [0, 1] rfl rfl (by decide) (by decide) (by decide) hA hP hD hS (fun hP hD => va_runS (As := [.long (p3.toInt64), .long (0 : Int64), .long (8 : Int64)]) (rest := []) ⟨hx, hb, hml, hown, hts⟩ (metX7_in l D kk _ (p3.toInt64) (0 : Int64) (8 : Int64) _ h) (va_cwS 3 hts (lw_S q1033 q1034 q71 q1035) rfl rfl rfl pdX7_in.2 ⟨(Nat.le_of_ble_eq_true rfl), (Nat.le_of_ble_eq_true rfl)⟩) (zp_S hK hN hP hD) rfl rfl hl.1 rfl (lv_room (Nat.le_of_ble_eq_true rfl)) dX7_luck_26 ⟨(Nat.le_of_ble_eq_true rfl), (Nat.le_of_ble_eq_true rfl)⟩) (fun r_5 u H locs h hP hD hS => ?_)
      try dsimp only at h
      have hP : va_P D vwCl [zA (kk 1) (am 1) 252 st, zM am f] H := hP
      have hD : va_D A [zA (kk 1) (am 1) 252 st, zM am f] := hD
      refine lv_if_eq (tgt := 55) hx hb dX7_luck_29 (by decide) (fun c_6 => ?_) (fun c_6 => ?_)
      · have h := h.1 c_6
        exact cut_55 f st h _ _ (hP.sub [1, 0] rfl) (hD.sub [1, 0] (by decide) rfl) hS _ (lv_sub hl [] rfl)
      · have h := h.2 c_6
        refine lv_iload hx hb dX7_luck_32 (lv_at hl 4 rfl) ?_
        refine lv_i2l hx hb dX7_luck_34 rfl ?_
        refine lv_lconst (v := (0 : Int64)) hx hb dX7_luck_35 (by decide) ?_
        refine lv_lconst (v := (1 : Int64)) hx hb dX7_luck_36 (by decide) ?_
        refine zc_i (wc := []) (wr := [zA (kk 1) (am 1) 252 st, zM am f]) (w1 := (fun u : Unit => [])) (rest := []) [] [0, 1] rfl rfl (by decide) (by decide) (by decide) hA hP hD hS (fun hP hD => va_runS (As := [.long (p4.toInt64), .long (0 : Int64), .long (1 : Int64)]) (rest := []) ⟨hx, hb, hml, hown, hts⟩ (metX7_in l D kk _ (p4.toInt64) (0 : Int64) (1 : Int64) _ h) (va_cwS 3 hts (lw_S q1033 q1034 q71 q1035) rfl rfl rfl pdX7_in.2 ⟨(Nat.le_of_ble_eq_true rfl), (Nat.le_of_ble_eq_true rfl)⟩) (zp_S hK hN hP hD) rfl rfl hl.1 rfl (lv_room (Nat.le_of_ble_eq_true rfl)) dX7_luck_37 ⟨(Nat.le_of_ble_eq_true rfl), (Nat.le_of_ble_eq_true rfl)⟩) (fun r_7 u H locs h hP hD hS => ?_)
        try dsimp only at h
        have hP : va_P D vwCl [zA (kk 1) (am 1) 252 st, zM am f] H := hP
        have hD : va_D A [zA (kk 1) (am 1) 252 st, zM am f] := hD
        refine lv_if_eq (tgt := 55) hx hb dX7_luck_40 (by decide) (fun c_8 => ?_) (fun c_8 => ?_)
        · have h := h.1 c_8
          exact cut_55 f st h _ _ (hP.sub [1, 0] rfl) (hD.sub [1, 0] (by decide) rfl) hS _ (lv_sub hl [] rfl)
        · have h := h.2 c_8
          refine lv_aload_n hx hb dX7_luck_43 rfl (lv_at hl 0 rfl) ?_
          refine lv_iload_n hx hb dX7_luck_44 rfl (lv_at hl 1 rfl) ?_
          refine lv_iload_n hx hb dX7_luck_45 rfl (lv_at hl 2 rfl) ?_
          refine lv_iload_n hx hb dX7_luck_46 rfl (lv_at hl 3 rfl) ?_
          refine lv_iload hx hb dX7_luck_47 (lv_at hl 4 rfl) ?_
          have hrc := va_recv hK hP (ci := 7) (q0 := 1) rfl rfl
          refine zc_l (wc := [zM am f, zA (kk 1) (am 1) 252 st]) (wr := []) (w1 := (fun u : (Nat → Int32) × (Nat → Int32) => [zM am u.1, zA (kk 1) (am 1) 252 u.2])) (rest := []) [1, 0] [] rfl rfl (by decide) (by decide) (by decide) hA hP hD hS (fun hP hD => va_runV (As := [.int p1, .int p2, .int p3, .int p4]) (rest := []) ⟨hx, hb, hml, hown, hts⟩ (metX7_byRain l D kk am _ f st p1 p2 p3 p4 _ h) (cwV 4 hts (lw_V q1246 q1248 qs60 q71 q1249) rfl rfl rfl pdX7_byRain ⟨(Nat.le_of_ble_eq_true rfl), (Nat.le_of_ble_eq_true rfl)⟩) (zp_V hK hN hrc hP hD) rfl rfl hl.1 rfl (lv_room (Nat.le_of_ble_eq_true rfl)) dX7_luck_49 ⟨(Nat.le_of_ble_eq_true rfl), (Nat.le_of_ble_eq_true rfl)⟩) (fun r_9 u H locs h hP hD hS => ?_)
          obtain ⟨f_10, st_11⟩ := u
          try dsimp only at h
          have hP : va_P D vwCl [zM am f_10, zA (kk 1) (am 1) 252 st_11] H := hP
          have hD : va_D A [zM am f_10, zA (kk 1) (am 1) 252 st_11] := hD
          refine lv_goto (tgt := 58) hx hb dX7_luck_52 (by decide) ?_
          exact zr_l hx hb hr hlk hP hD hS (f_10, st_11) [0, 1] rfl (by decide) dX7_luck_58 h
def wpX7_mean_46 (p1 : Int32) (p2 : Int32) (p3 : Int32) (Q : Int64 → (Nat → Int32) → (Nat → Int32) → Prop) (f : Nat → Int32) (st : Nat → Int32) : Prop :=
  Q (-1 : Int64) f st
def wpX7_mean (f : Nat → Int32) (st : Nat → Int32) (p1 : Int32) (p2 : Int32) (p3 : Int32) (Q : Int64 → (Nat → Int32) → (Nat → Int32) → Prop) : Prop :=
  (wpX7_in (p1.toInt64) (0 : Int64) (10 : Int64) (fun r_1 => ((r_1 = 0 → wpX7_mean_46 p1 p2 p3 Q  f st) ∧ (¬ r_1 = 0 → (wpX7_in (p2.toInt64) (0 : Int64) (8 : Int64) (fun r_3 => ((r_3 = 0 → wpX7_mean_46 p1 p2 p3 Q  f st) ∧ (¬ r_3 = 0 → (wpX7_in (p3.toInt64) (0 : Int64) (1 : Int64) (fun r_5 => ((r_5 = 0 → wpX7_mean_46 p1 p2 p3 Q  f st) ∧ (¬ r_5 = 0 → (wpX7_byRain f st p1 (-4 : Int32) p2 p3 (fun r_7 f_8 st_9 => Q r_7 f_8 st_9))))))))))))))
set_option maxHeartbeats 4000000 in
theorem metX7_mean (l : Launch) (D : va_G) (kk : Nat → ClassId) (am : Nat → Nat) (sz : Nat) (f : Nat → Int32) (st : Nat → Int32) (p1 : Int32) (p2 : Int32) (p3 : Int32) (Q : Int64 → (Nat → Int32) → (Nat → Int32) → Prop) (h : wpX7_mean f st p1 p2 p3 Q) : Met l yX7_mean (ws_ yX7_mean cX7_mean 4 (some .long)) { frames := 5, cells := 0, slots := 0, locals := 133 } (va_Pc ([.ref (am 0), .int p1, .int p2, .int p3] : List Value) (zPc D kk [zM am f, zA (kk 1) (am 1) 252 st] sz)) (va_Ql (fun (r : Int64) (u : (Nat → Int32) × (Nat → Int32)) => Q r u.1 u.2) (zB D (va_A [zM am f, zA (kk 1) (am 1) 252 st] sz) (fun u : (Nat → Int32) × (Nat → Int32) => [zM am u.1, zA (kk 1) (am 1) 252 u.2])) (va_A [zM am f, zA (kk 1) (am 1) 252 st] sz)) 0 0 (va_A [zM am f, zA (kk 1) (am 1) 252 st] sz) := by
  refine zMet (Qc := fun A => va_Ql (fun (r : Int64) (u : (Nat → Int32) × (Nat → Int32)) => Q r u.1 u.2) (zB D A (fun u : (Nat → Int32) × (Nat → Int32) => [zM am u.1, zA (kk 1) (am 1) 252 u.2])) A) (by decide) (Nat.le_of_ble_eq_true rfl) ?_
  intro p e s m below meth c A X hP hD hS ls hl
  obtain ⟨hx, hb, hr, hml, hown, hts, hlk, hnm, hK, hN, hA⟩ := X
  have hown : s.vm.findClass "LoseLeagueModel" = some m.cls := hown
  have hl : lv_has ls 4 [(0, .ref (am 0)), (1, .int p1), (2, .int p2), (3, .int p3)] := hl
  unfold wpX7_mean at h
  refine lv_iload_n hx hb dX7_mean_0 rfl (lv_at hl 1 rfl) ?_
  refine lv_i2l hx hb dX7_mean_1 rfl ?_
  refine lv_lconst (v := (0 : Int64)) hx hb dX7_mean_2 (by decide) ?_
  refine lv_ldc2 (v := (10 : Int64)) hx hb hown (hts _ q1214) dX7_mean_3 ?_
  refine zc_i (wc := []) (wr := [zM am f, zA (kk 1) (am 1) 252 st]) (w1 := (fun u : Unit => [])) (rest := []) [] [0, 1] rfl rfl (by decide) (by decide) (by decide) hA hP hD hS (fun hP hD => va_runS (As := [.long (p1.toInt64), .long (0 : Int64), .long (10 : Int64)]) (rest := []) ⟨hx, hb, hml, hown, hts⟩ (metX7_in l D kk _ (p1.toInt64) (0 : Int64) (10 : Int64) _ h) (va_cwS 3 hts (lw_S q1033 q1034 q71 q1035) rfl rfl rfl pdX7_in.2 ⟨(Nat.le_of_ble_eq_true rfl), (Nat.le_of_ble_eq_true rfl)⟩) (zp_S hK hN hP hD) rfl rfl hl.1 rfl (lv_room (Nat.le_of_ble_eq_true rfl)) dX7_mean_6 ⟨(Nat.le_of_ble_eq_true rfl), (Nat.le_of_ble_eq_true rfl)⟩) (fun r_1 u H locs h hP hD hS => ?_)
  try dsimp only at h
  have hP : va_P D vwCl [zM am f, zA (kk 1) (am 1) 252 st] H := hP
  have hD : va_D A [zM am f, zA (kk 1) (am 1) 252 st] := hD
  have cut_46 : ∀ (f : Nat → Int32) (st : Nat → Int32), wpX7_mean_46 p1 p2 p3 Q  f st → ∀ (H : Heap) (locs : List Loc), va_P D vwCl [zM am f, zA (kk 1) (am 1) 252 st] H → va_D A [zM am f, zA (kk 1) (am 1) 252 st] → va_S A s.heap H locs → ∀ ls : Array Slot, lv_has ls 4 [] → W p l e { frames := 5, cells := 0, slots := 0, locals := 133 } s m ([.ref (am 0), .int p1, .int p2, .int p3] : List Value).toArray below meth c H locs 0 0 (MQ below (va_Ql (fun (r : Int64) (u : (Nat → Int32) × (Nat → Int32)) => Q r u.1 u.2) (zB D A (fun u : (Nat → Int32) × (Nat → Int32) => [zM am u.1, zA (kk 1) (am 1) 252 u.2])) A) ([.ref (am 0), .int p1, .int p2, .int p3] : List Value).toArray s 0 0 A) (F0 m 46 ls []) := by
    intro f st h H locs hP hD hS ls hl
    unfold wpX7_mean_46 at h
    refine lv_ldc2 (v := (-1 : Int64)) hx hb hown (hts _ q1253) dX7_mean_46 ?_
    exact zr_l hx hb hr hlk hP hD hS (f, st) [0, 1] rfl (by decide) dX7_mean_49 h
  refine lv_if_eq (tgt := 46) hx hb dX7_mean_9 (by decide) (fun c_2 => ?_) (fun c_2 => ?_)
  · have h := h.1 c_2
    exact cut_46 f st h _ _ hP hD hS _ (lv_sub hl [] rfl)
  · have h := h.2 c_2
    refine lv_iload_n hx hb dX7_mean_12 rfl (lv_at hl 2 rfl) ?_
    refine lv_i2l hx hb dX7_mean_13 rfl ?_
    refine lv_lconst (v := (0 : Int64)) hx hb dX7_mean_14 (by decide) ?_
    refine lv_ldc2 (v := (8 : Int64)) hx hb hown (hts _ q1245) dX7_mean_15 ?_
    refine zc_i (wc := []) (wr := [zM am f, zA (kk 1) (am 1) 252 st]) (w1 := (fun u : Unit => [])) (rest := []) [] [0, 1] rfl rfl (by decide) (by decide) (by decide) hA hP hD hS (fun hP hD => va_runS (As := [.long (p2.toInt64), .long (0 : Int64), .long (8 : Int64)]) (rest := []) ⟨hx, hb, hml, hown, hts⟩ (metX7_in l D kk _ (p2.toInt64) (0 : Int64) (8 : Int64) _ h) (va_cwS 3 hts (lw_S q1033 q1034 q71 q1035) rfl rfl rfl pdX7_in.2 ⟨(Nat.le_of_ble_eq_true rfl), (Nat.le_of_ble_eq_true rfl)⟩) (zp_S hK hN hP hD) rfl rfl hl.1 rfl (lv_room (Nat.le_of_ble_eq_true rfl)) dX7_mean_18 ⟨(Nat.le_of_ble_eq_true rfl), (Nat.le_of_ble_eq_true rfl)⟩) (fun r_3 u H locs h hP hD hS => ?_)
    try dsimp only at h
    have hP : va_P D vwCl [zM am f, zA (kk 1) (am 1) 252 st] H := hP
    have hD : va_D A [zM am f, zA (kk 1) (am 1) 252 st] := hD
    refine lv_if_eq (tgt := 46) hx hb dX7_mean_21 (by decide) (fun c_4 => ?_) (fun c_4 => ?_)
    · have h := h.1 c_4
      exact cut_46 f st h _ _ hP hD hS _ (lv_sub hl [] rfl)
    · have h := h.2 c_4
      refine lv_iload_n hx hb dX7_mean_24 rfl (lv_at hl 3 rfl) ?_
      refine lv_i2l hx hb dX7_mean_25 rfl ?_
      refine lv_lconst (v := (0 : Int64)) hx hb dX7_mean_26 (by decide) ?_
      refine lv_lconst (v := (1 : Int64)) hx hb dX7_mean_27 (by decide) ?_
      refine zc_i (wc := []) (wr := [zM am f, zA (kk 1) (am 1) 252 st]) (w1 := (fun u : Unit => [])) (rest := []) [] [0, 1] rfl rfl (by decide) (by decide) (by decide) hA hP hD hS (fun hP hD => va_runS (As := [.long (p3.toInt64), .long (0 : Int64), .long (1 : Int64)]) (rest := []) ⟨hx, hb, hml, hown, hts⟩ (metX7_in l D kk _ (p3.toInt64) (0 : Int64) (1 : Int64) _ h) (va_cwS 3 hts (lw_S q1033 q1034 q71 q1035) rfl rfl rfl pdX7_in.2 ⟨(Nat.le_of_ble_eq_true rfl), (Nat.le_of_ble_eq_true rfl)⟩) (zp_S hK hN hP hD) rfl rfl hl.1 rfl (lv_room (Nat.le_of_ble_eq_true rfl)) dX7_mean_28 ⟨(Nat.le_of_ble_eq_true rfl), (Nat.le_of_ble_eq_true rfl)⟩) (fun r_5 u H locs h hP hD hS => ?_)
      try dsimp only at h
      have hP : va_P D vwCl [zM am f, zA (kk 1) (am 1) 252 st] H := hP
      have hD : va_D A [zM am f, zA (kk 1) (am 1) 252 st] := hD
      refine lv_if_eq (tgt := 46) hx hb dX7_mean_31 (by decide) (fun c_6 => ?_) (fun c_6 => ?_)
      · have h := h.1 c_6
        exact cut_46 f st h _ _ hP hD hS _ (lv_sub hl [] rfl)
      · have h := h.2 c_6
        refine lv_aload_n hx hb dX7_mean_34 rfl (lv_at hl 0 rfl) ?_
        refine lv_iload_n hx hb dX7_mean_35 rfl (lv_at hl 1 rfl) ?_
        refine lv_bipush (v := (-4 : Int32)) hx hb dX7_mean_36 (by decide) ?_
        refine lv_iload_n hx hb dX7_mean_38 rfl (lv_at hl 2 rfl) ?_
        refine lv_iload_n hx hb dX7_mean_39 rfl (lv_at hl 3 rfl) ?_
        have hrc := va_recv hK hP (ci := 7) (q0 := 0) rfl rfl
        refine zc_l (wc := [zM am f, zA (kk 1) (am 1) 252 st]) (wr := []) (w1 := (fun u : (Nat → Int32) × (Nat → Int32) => [zM am u.1, zA (kk 1) (am 1) 252 u.2])) (rest := []) [0, 1] [] rfl rfl (by decide) (by decide) (by decide) hA hP hD hS (fun hP hD => va_runV (As := [.int p1, .int (-4 : Int32), .int p2, .int p3]) (rest := []) ⟨hx, hb, hml, hown, hts⟩ (metX7_byRain l D kk am _ f st p1 (-4 : Int32) p2 p3 _ h) (cwV 4 hts (lw_V q1246 q1248 qs60 q71 q1249) rfl rfl rfl pdX7_byRain ⟨(Nat.le_of_ble_eq_true rfl), (Nat.le_of_ble_eq_true rfl)⟩) (zp_V hK hN hrc hP hD) rfl rfl hl.1 rfl (lv_room (Nat.le_of_ble_eq_true rfl)) dX7_mean_40 ⟨(Nat.le_of_ble_eq_true rfl), (Nat.le_of_ble_eq_true rfl)⟩) (fun r_7 u H locs h hP hD hS => ?_)
        obtain ⟨f_8, st_9⟩ := u
        try dsimp only at h
        have hP : va_P D vwCl [zM am f_8, zA (kk 1) (am 1) 252 st_9] H := hP
        have hD : va_D A [zM am f_8, zA (kk 1) (am 1) 252 st_9] := hD
        refine lv_goto (tgt := 49) hx hb dX7_mean_43 (by decide) ?_
        exact zr_l hx hb hr hlk hP hD hS (f_8, st_9) [0, 1] rfl (by decide) dX7_mean_49 h
