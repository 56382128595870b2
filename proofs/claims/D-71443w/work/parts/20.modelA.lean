set_option maxRecDepth 100000
theorem pdX7_in : yX7_in.cls = "LoseLeagueModel" ∧ yX7_in.cls ≠ "java/lang/invoke/MethodHandle" ∧ yX7_in.cls ≠ "java/lang/invoke/VarHandle" ∧ (parseMethodDescriptor yX7_in.desc).map (fun d => d.parameters.length) = some 3 := by decide +kernel
theorem peX7_in : yX7_in.name ≠ "<init>" ∧ (parseMethodDescriptor yX7_in.desc).map (fun d => d.parameters.length) = some 3 := by decide +kernel
theorem pdX7_lowest : yX7_lowest.cls = "LoseLeagueModel" ∧ yX7_lowest.cls ≠ "java/lang/invoke/MethodHandle" ∧ yX7_lowest.cls ≠ "java/lang/invoke/VarHandle" ∧ (parseMethodDescriptor yX7_lowest.desc).map (fun d => d.parameters.length) = some 3 := by decide +kernel
theorem peX7_lowest : yX7_lowest.name ≠ "<init>" ∧ (parseMethodDescriptor yX7_lowest.desc).map (fun d => d.parameters.length) = some 3 := by decide +kernel
theorem pdX7_feed : yX7_feed.cls = "LoseLeagueModel" ∧ yX7_feed.cls ≠ "java/lang/invoke/MethodHandle" ∧ yX7_feed.cls ≠ "java/lang/invoke/VarHandle" ∧ (parseMethodDescriptor yX7_feed.desc).map (fun d => d.parameters.length) = some 1 := by decide +kernel
theorem peX7_feed : yX7_feed.name ≠ "<init>" ∧ (parseMethodDescriptor yX7_feed.desc).map (fun d => d.parameters.length) = some 1 := by decide +kernel
theorem pdX7_end : yX7_end.cls = "LoseLeagueModel" ∧ yX7_end.cls ≠ "java/lang/invoke/MethodHandle" ∧ yX7_end.cls ≠ "java/lang/invoke/VarHandle" ∧ (parseMethodDescriptor yX7_end.desc).map (fun d => d.parameters.length) = some 1 := by decide +kernel
theorem peX7_end : yX7_end.name ≠ "<init>" ∧ (parseMethodDescriptor yX7_end.desc).map (fun d => d.parameters.length) = some 1 := by decide +kernel
theorem pdX7_byteAt : yX7_byteAt.cls = "LoseLeagueModel" ∧ yX7_byteAt.cls ≠ "java/lang/invoke/MethodHandle" ∧ yX7_byteAt.cls ≠ "java/lang/invoke/VarHandle" ∧ (parseMethodDescriptor yX7_byteAt.desc).map (fun d => d.parameters.length) = some 1 := by decide +kernel
theorem peX7_byteAt : yX7_byteAt.name ≠ "<init>" ∧ (parseMethodDescriptor yX7_byteAt.desc).map (fun d => d.parameters.length) = some 1 := by decide +kernel
theorem pdX7_fails : yX7_fails.cls = "LoseLeagueModel" ∧ yX7_fails.cls ≠ "java/lang/invoke/MethodHandle" ∧ yX7_fails.cls ≠ "java/lang/invoke/VarHandle" ∧ (parseMethodDescriptor yX7_fails.desc).map (fun d => d.parameters.length) = some 1 := by decide +kernel
theorem peX7_fails : yX7_fails.name ≠ "<init>" ∧ (parseMethodDescriptor yX7_fails.desc).map (fun d => d.parameters.length) = some 1 := by decide +kernel
theorem pdX7_nameHere : yX7_nameHere.cls = "LoseLeagueModel" ∧ yX7_nameHere.cls ≠ "java/lang/invoke/MethodHandle" ∧ yX7_nameHere.cls ≠ "java/lang/invoke/VarHandle" ∧ (parseMethodDescriptor yX7_nameHere.desc).map (fun d => d.parameters.length) = some 0 := by decide +kernel
theorem peX7_nameHere : yX7_nameHere.name ≠ "<init>" ∧ (parseMethodDescriptor yX7_nameHere.desc).map (fun d => d.parameters.length) = some 0 := by decide +kernel
theorem pdX7_step : yX7_step.cls = "LoseLeagueModel" ∧ yX7_step.cls ≠ "java/lang/invoke/MethodHandle" ∧ yX7_step.cls ≠ "java/lang/invoke/VarHandle" ∧ (parseMethodDescriptor yX7_step.desc).map (fun d => d.parameters.length) = some 0 := by decide +kernel
theorem peX7_step : yX7_step.name ≠ "<init>" ∧ (parseMethodDescriptor yX7_step.desc).map (fun d => d.parameters.length) = some 0 := by decide +kernel
theorem pdX7_number : yX7_number.cls = "LoseLeagueModel" ∧ yX7_number.cls ≠ "java/lang/invoke/MethodHandle" ∧ yX7_number.cls ≠ "java/lang/invoke/VarHandle" ∧ (parseMethodDescriptor yX7_number.desc).map (fun d => d.parameters.length) = some 2 := by decide +kernel
theorem peX7_number : yX7_number.name ≠ "<init>" ∧ (parseMethodDescriptor yX7_number.desc).map (fun d => d.parameters.length) = some 2 := by decide +kernel
theorem pdX7_townHere : yX7_townHere.cls = "LoseLeagueModel" ∧ yX7_townHere.cls ≠ "java/lang/invoke/MethodHandle" ∧ yX7_townHere.cls ≠ "java/lang/invoke/VarHandle" ∧ (parseMethodDescriptor yX7_townHere.desc).map (fun d => d.parameters.length) = some 0 := by decide +kernel
theorem peX7_townHere : yX7_townHere.name ≠ "<init>" ∧ (parseMethodDescriptor yX7_townHere.desc).map (fun d => d.parameters.length) = some 0 := by decide +kernel
theorem pdX7_readMore : yX7_readMore.cls = "LoseLeagueModel" ∧ yX7_readMore.cls ≠ "java/lang/invoke/MethodHandle" ∧ yX7_readMore.cls ≠ "java/lang/invoke/VarHandle" ∧ (parseMethodDescriptor yX7_readMore.desc).map (fun d => d.parameters.length) = some 1 := by decide +kernel
theorem peX7_readMore : yX7_readMore.name ≠ "<init>" ∧ (parseMethodDescriptor yX7_readMore.desc).map (fun d => d.parameters.length) = some 1 := by decide +kernel
theorem pdX7_readLine : yX7_readLine.cls = "LoseLeagueModel" ∧ yX7_readLine.cls ≠ "java/lang/invoke/MethodHandle" ∧ yX7_readLine.cls ≠ "java/lang/invoke/VarHandle" ∧ (parseMethodDescriptor yX7_readLine.desc).map (fun d => d.parameters.length) = some 0 := by decide +kernel
theorem peX7_readLine : yX7_readLine.name ≠ "<init>" ∧ (parseMethodDescriptor yX7_readLine.desc).map (fun d => d.parameters.length) = some 0 := by decide +kernel
theorem pdX7_text : yX7_text.cls = "LoseLeagueModel" ∧ yX7_text.cls ≠ "java/lang/invoke/MethodHandle" ∧ yX7_text.cls ≠ "java/lang/invoke/VarHandle" ∧ (parseMethodDescriptor yX7_text.desc).map (fun d => d.parameters.length) = some 0 := by decide +kernel
theorem peX7_text : yX7_text.name ≠ "<init>" ∧ (parseMethodDescriptor yX7_text.desc).map (fun d => d.parameters.length) = some 0 := by decide +kernel
theorem pdX7_fault : yX7_fault.cls = "LoseLeagueModel" ∧ yX7_fault.cls ≠ "java/lang/invoke/MethodHandle" ∧ yX7_fault.cls ≠ "java/lang/invoke/VarHandle" ∧ (parseMethodDescriptor yX7_fault.desc).map (fun d => d.parameters.length) = some 0 := by decide +kernel
theorem peX7_fault : yX7_fault.name ≠ "<init>" ∧ (parseMethodDescriptor yX7_fault.desc).map (fun d => d.parameters.length) = some 0 := by decide +kernel
def wpX7_in (p1 : Int64) (p2 : Int64) (p3 : Int64) (Q : Int32 → Prop) : Prop :=
  (((lg_cmp p1 p2) < 0 → Q (0 : Int32)) ∧ (¬ (lg_cmp p1 p2) < 0 → ((0 < (lg_cmp p1 p3) → Q (0 : Int32)) ∧ (¬ 0 < (lg_cmp p1 p3) → Q (1 : Int32)))))
set_option maxHeartbeats 4000000 in
theorem metX7_in (l : Launch) (D : va_G) (kk : Nat → ClassId) (sz : Nat) (p1 : Int64) (p2 : Int64) (p3 : Int64) (Q : Int32 → Prop) (h : wpX7_in p1 p2 p3 Q) : Met l yX7_in (ws_ yX7_in cX7_in 6 (some .boolean)) { frames := 0, cells := 0, slots := 0, locals := 0 } (va_Pc ([.long p1, .long p2, .long p3] : List Value) (zPc D kk [] sz)) (va_Qi (fun (r : Int32) (u : Unit) => Q r ) (zB D (va_A [] sz) (fun u : Unit => [])) (va_A [] sz)) 0 0 (va_A [] sz) := by
  refine zMet (Qc := fun A => va_Qi (fun (r : Int32) (u : Unit) => Q r ) (zB D A (fun u : Unit => [])) A) (by decide) (Nat.le_of_ble_eq_true rfl) ?_
  intro p e s m below meth c A X hP hD hS ls hl
  obtain ⟨hx, hb, hr, hml, hown, hts, hlk, hnm, hK, hN, hA⟩ := X
  have hown : s.vm.findClass "LoseLeagueModel" = some m.cls := hown
  have hl : lv_has ls 6 [(0, .long p1), (2, .long p2), (4, .long p3)] := hl
  unfold wpX7_in at h
  refine lv_lload_n hx hb dX7_in_0 rfl (lv_at hl 0 rfl) ?_
  refine lv_lload_n hx hb dX7_in_1 rfl (lv_at hl 1 rfl) ?_
  refine W.lcmp hx hb dX7_in_2 ?_
  refine lv_if_lt (tgt := 17) hx hb dX7_in_3 (by decide) (fun c_1 => ?_) (fun c_1 => ?_)
  · have h := h.1 c_1
    refine lv_iconst (v := (0 : Int32)) hx hb dX7_in_17 (by decide) ?_
    exact zr_i hx hb hr hlk rfl hP hD hS () [] rfl (by decide) dX7_in_18 h
  · have h := h.2 c_1
    refine lv_lload_n hx hb dX7_in_6 rfl (lv_at hl 0 rfl) ?_
    refine lv_lload hx hb dX7_in_7 (lv_at hl 2 rfl) ?_
    refine W.lcmp hx hb dX7_in_9 ?_
    refine lv_if_gt (tgt := 17) hx hb dX7_in_10 (by decide) (fun c_2 => ?_) (fun c_2 => ?_)
    · have h := h.1 c_2
      refine lv_iconst (v := (0 : Int32)) hx hb dX7_in_17 (by decide) ?_
      exact zr_i hx hb hr hlk rfl hP hD hS () [] rfl (by decide) dX7_in_18 h
    · have h := h.2 c_2
      refine lv_iconst (v := (1 : Int32)) hx hb dX7_in_13 (by decide) ?_
      refine lv_goto (tgt := 18) hx hb dX7_in_14 (by decide) ?_
      exact zr_i hx hb hr hlk rfl hP hD hS () [] rfl (by decide) dX7_in_18 h
def wpX7_lowest_41 (p1 : Int64) (p2 : Int64) (p3 : Int32) (Q : Int64 → Prop) (k6 : Int64 → Int64 → Prop) (x5 : Int64) (s0 : Int64) : Prop :=
  ((¬ x5 = 0) ∧ Q (s0 / x5))
def wbX7_lowest_6 (p1 : Int64) (p2 : Int64) (p3 : Int32) (Q : Int64 → Prop) (k6 : Int64 → Int64 → Prop) (x5 : Int64) (x7 : Int64) : Prop :=
  (((lg_cmp x7 (0 : Int64)) = 0 → ((p3 = 0 → wpX7_lowest_41 p1 p2 p3 Q k6 x5 p1) ∧ (¬ p3 = 0 → wpX7_lowest_41 p1 p2 p3 Q k6 x5 p2))) ∧ (¬ (lg_cmp x7 (0 : Int64)) = 0 → ((¬ x7 = 0) ∧ k6 x7 (x5 - x5 / x7 * x7))))
def wpX7_lowest_6 (p1 : Int64) (p2 : Int64) (p3 : Int32) (Q : Int64 → Prop) (n : Nat) : Int64 → Int64 → Prop :=
  Nat.rec (motive := fun _ => Int64 → Int64 → Prop) (fun _ _ => False) (fun _ k => wbX7_lowest_6 p1 p2 p3 Q  k) n
def wpX7_lowest (p1 : Int64) (p2 : Int64) (p3 : Int32) (Q : Int64 → Prop) : Prop :=
  (∃ n : Nat, wpX7_lowest_6 p1 p2 p3 Q  n p1 p2)
set_option maxHeartbeats 4000000 in
theorem metX7_lowest (l : Launch) (D : va_G) (kk : Nat → ClassId) (sz : Nat) (p1 : Int64) (p2 : Int64) (p3 : Int32) (Q : Int64 → Prop) (h : wpX7_lowest p1 p2 p3 Q) : Met l yX7_lowest (ws_ yX7_lowest cX7_lowest 11 (some .long)) { frames := 0, cells := 0, slots := 0, locals := 0 } (va_Pc ([.long p1, .long p2, .int p3] : List Value) (zPc D kk [] sz)) (va_Ql (fun (r : Int64) (u : Unit) => Q r ) (zB D (va_A [] sz) (fun u : Unit => [])) (va_A [] sz)) 0 0 (va_A [] sz) := by
  refine zMet (Qc := fun A => va_Ql (fun (r : Int64) (u : Unit) => Q r ) (zB D A (fun u : Unit => [])) A) (by decide) (Nat.le_of_ble_eq_true rfl) ?_
  intro p e s m below meth c A X hP hD hS ls hl
  obtain ⟨hx, hb, hr, hml, hown, hts, hlk, hnm, hK, hN, hA⟩ := X
  have hown : s.vm.findClass "LoseLeagueModel" = some m.cls := hown
  have hl : lv_has ls 11 [(0, .long p1), (2, .long p2), (4, .int p3)] := hl
  unfold wpX7_lowest at h
  refine lv_lload_n hx hb dX7_lowest_0 rfl (lv_at hl 0 rfl) ?_
  refine lv_lstore (lv' := [(5, .long p1), (0, .long p1), (2, .long p2), (4, .int p3)]) hx hb dX7_lowest_1 hl (by decide) rfl (fun ls hl => ?_)
  refine lv_lload_n hx hb dX7_lowest_3 rfl (lv_at hl 2 rfl) ?_
  have cut_6 : ∀ (nl6 : Nat) (x5 : Int64) (x7 : Int64), wpX7_lowest_6 p1 p2 p3 Q  nl6 x5 x7 → ∀ (H : Heap) (locs : List Loc), va_P D vwCl [] H → va_D A [] → va_S A s.heap H locs → ∀ ls : Array Slot, lv_has ls 11 [(5, .long x5), (7, .long x7), (0, .long p1), (2, .long p2), (4, .int p3)] → W p l e { frames := 0, cells := 0, slots := 0, locals := 0 } s m ([.long p1, .long p2, .int p3] : List Value).toArray below meth c H locs 0 0 (MQ below (va_Ql (fun (r : Int64) (u : Unit) => Q r ) (zB D A (fun u : Unit => [])) A) ([.long p1, .long p2, .int p3] : List Value).toArray s 0 0 A) (F0 m 6 ls []) := by
    intro nl6
    induction nl6 with
    | zero => intro x5 x7 h; exact absurd h id
    | succ nl6 ih_6 =>
      intro x5 x7 h H locs hP hD hS ls hl
      have h : wbX7_lowest_6 p1 p2 p3 Q  (wpX7_lowest_6 p1 p2 p3 Q  nl6) x5 x7 := h
      unfold wbX7_lowest_6 at h
      refine lv_lload hx hb dX7_lowest_6 (lv_at hl 1 rfl) ?_
      refine lv_lconst (v := (0 : Int64)) hx hb dX7_lowest_8 (by decide) ?_
      refine W.lcmp hx hb dX7_lowest_9 ?_
      refine lv_if_eq (tgt := 31) hx hb dX7_lowest_10 (by decide) (fun c_1 => ?_) (fun c_1 => ?_)
      · have h := h.1 c_1
        refine lv_iload hx hb dX7_lowest_31 (lv_at hl 4 rfl) ?_
        have cut_41 : ∀ (x5 : Int64) (s0 : Int64), wpX7_lowest_41 p1 p2 p3 Q (wpX7_lowest_6 p1 p2 p3 Q  nl6) x5 s0 → ∀ (H : Heap) (locs : List Loc), va_P D vwCl [] H → va_D A [] → va_S A s.heap H locs → ∀ ls : Array Slot, lv_has ls 11 [(5, .long x5)] → W p l e { frames := 0, cells := 0, slots := 0, locals := 0 } s m ([.long p1, .long p2, .int p3] : List Value).toArray below meth c H locs 0 0 (MQ below (va_Ql (fun (r : Int64) (u : Unit) => Q r ) (zB D A (fun u : Unit => [])) A) ([.long p1, .long p2, .int p3] : List Value).toArray s 0 0 A) (F0 m 41 ls [.long s0]) := by
          intro x5 s0 h H locs hP hD hS ls hl
          unfold wpX7_lowest_41 at h
          refine lv_lload hx hb dX7_lowest_41 (lv_at hl 0 rfl) ?_
          obtain ⟨hne, h⟩ := h
          refine lv_ldiv hx hb dX7_lowest_43 hne ?_
          exact zr_l hx hb hr hlk hP hD hS () [] rfl (by decide) dX7_lowest_44 h
        refine lv_if_ne (tgt := 40) hx hb dX7_lowest_33 (by decide) (fun c_2 => ?_) (fun c_2 => ?_)
        · have h := h.2 c_2
          refine lv_lload_n hx hb dX7_lowest_40 rfl (lv_at hl 3 rfl) ?_
          exact cut_41 x5 p2 h _ _ hP hD hS _ (lv_sub hl [0] rfl)
        · have h := h.1 c_2
          refine lv_lload_n hx hb dX7_lowest_36 rfl (lv_at hl 2 rfl) ?_
          refine lv_goto (tgt := 41) hx hb dX7_lowest_37 (by decide) ?_
          exact cut_41 x5 p1 h _ _ hP hD hS _ (lv_sub hl [0] rfl)
      · have h := h.2 c_1
        refine lv_lload hx hb dX7_lowest_13 (lv_at hl 0 rfl) ?_
        refine lv_lload hx hb dX7_lowest_15 (lv_at hl 1 rfl) ?_
        obtain ⟨hne, h⟩ := h
        refine lv_lrem hx hb dX7_lowest_17 hne ?_
        refine lv_lstore (lv' := [(9, .long (x5 - x5 / x7 * x7)), (5, .long x5), (7, .long x7), (0, .long p1), (2, .long p2), (4, .int p3)]) hx hb dX7_lowest_18 hl (by decide) rfl (fun ls hl => ?_)
        refine lv_lload hx hb dX7_lowest_20 (lv_at hl 2 rfl) ?_
        refine lv_lstore (lv' := [(5, .long x7), (9, .long (x5 - x5 / x7 * x7)), (7, .long x7), (0, .long p1), (2, .long p2), (4, .int p3)]) hx hb dX7_lowest_22 hl (by decide) rfl (fun ls hl => ?_)
        refine lv_lload hx hb dX7_lowest_24 (lv_at hl 1 rfl) ?_
        refine lv_lstore (lv' := [(7, .long (x5 - x5 / x7 * x7)), (5, .long x7), (9, .long (x5 - x5 / x7 * x7)), (0, .long p1), (2, .long p2), (4, .int p3)]) hx hb dX7_lowest_26 hl (by decide) rfl (fun ls hl => ?_)
        refine lv_goto (tgt := 6) hx hb dX7_lowest_28 (by decide) ?_
        exact ih_6 x7 (x5 - x5 / x7 * x7) h _ _ hP hD hS _ (lv_sub hl [1, 0, 3, 4, 5] rfl)
  refine lv_lstore (lv' := [(7, .long p2), (5, .long p1), (0, .long p1), (2, .long p2), (4, .int p3)]) hx hb dX7_lowest_4 hl (by decide) rfl (fun ls hl => ?_)
  obtain ⟨n_6, h⟩ := h
  exact cut_6 n_6 p1 p2 h _ _ hP hD hS _ (lv_sub hl [1, 0, 2, 3, 4] rfl)
def wpX7_feed (f : Nat → Int32) (tp : Nat → Int32) (p1 : Int32) (Q : Int32 → (Nat → Int32) → (Nat → Int32) → Prop) : Prop :=
  (wpX7_in (p1.toInt64) (0 : Int64) (127 : Int64) (fun r_1 => ((r_1 = 0 → Q (-1 : Int32) f tp) ∧ (¬ r_1 = 0 → (((f 6) = (160 : Int32) → Q (-3 : Int32) f tp) ∧ (¬ (f 6) = (160 : Int32) → (vp_in (f 6) 160 ∧ Q ((f 6) + (1 : Int32)) (upd f 6 ((f 6) + (1 : Int32))) (upd tp (f 6).toNatClampNeg p1))))))))
set_option maxHeartbeats 4000000 in
theorem metX7_feed (l : Launch) (D : va_G) (kk : Nat → ClassId) (am : Nat → Nat) (sz : Nat) (f : Nat → Int32) (tp : Nat → Int32) (p1 : Int32) (Q : Int32 → (Nat → Int32) → (Nat → Int32) → Prop) (h : wpX7_feed f tp p1 Q) : Met l yX7_feed (ws_ yX7_feed cX7_feed 2 (some .int)) { frames := 1, cells := 0, slots := 0, locals := 25 } (va_Pc ([.ref (am 0), .int p1] : List Value) (zPc D kk [zM am f, zA (kk 1) (am 3) 160 tp] sz)) (va_Qi (fun (r : Int32) (u : (Nat → Int32) × (Nat → Int32)) => Q r u.1 u.2) (zB D (va_A [zM am f, zA (kk 1) (am 3) 160 tp] sz) (fun u : (Nat → Int32) × (Nat → Int32) => [zM am u.1, zA (kk 1) (am 3) 160 u.2])) (va_A [zM am f, zA (kk 1) (am 3) 160 tp] sz)) 0 0 (va_A [zM am f, zA (kk 1) (am 3) 160 tp] sz) := by
  refine zMet (Qc := fun A => va_Qi (fun (r : Int32) (u : (Nat → Int32) × (Nat → Int32)) => Q r u.1 u.2) (zB D A (fun u : (Nat → Int32) × (Nat → Int32) => [zM am u.1, zA (kk 1) (am 3) 160 u.2])) A) (by decide) (Nat.le_of_ble_eq_true rfl) ?_
  intro p e s m below meth c A X hP hD hS ls hl
  obtain ⟨hx, hb, hr, hml, hown, hts, hlk, hnm, hK, hN, hA⟩ := X
  have hown : s.vm.findClass "LoseLeagueModel" = some m.cls := hown
  have hl : lv_has ls 2 [(0, .ref (am 0)), (1, .int p1)] := hl
  unfold wpX7_feed at h
  refine lv_iload_n hx hb dX7_feed_0 rfl (lv_at hl 1 rfl) ?_
  refine lv_i2l hx hb dX7_feed_1 rfl ?_
  refine lv_lconst (v := (0 : Int64)) hx hb dX7_feed_2 (by decide) ?_
  refine lv_ldc2 (v := (127 : Int64)) hx hb hown (hts _ q1032) dX7_feed_3 ?_
  refine zc_i (wc := []) (wr := [zM am f, zA (kk 1) (am 3) 160 tp]) (w1 := (fun u : Unit => [])) (rest := []) [] [0, 1] rfl rfl (by decide) (by decide) (by decide) hA hP hD hS (fun hP hD => va_runS (As := [.long (p1.toInt64), .long (0 : Int64), .long (127 : Int64)]) (rest := []) ⟨hx, hb, hml, hown, hts⟩ (metX7_in l D kk _ (p1.toInt64) (0 : Int64) (127 : Int64) _ h) (va_cwS 3 hts (lw_S q1033 q1034 q71 q1035) rfl rfl rfl pdX7_in.2 ⟨(Nat.le_of_ble_eq_true rfl), (Nat.le_of_ble_eq_true rfl)⟩) (zp_S hK hN hP hD) rfl rfl hl.1 rfl (lv_room (Nat.le_of_ble_eq_true rfl)) dX7_feed_6 ⟨(Nat.le_of_ble_eq_true rfl), (Nat.le_of_ble_eq_true rfl)⟩) (fun r_1 u H locs h hP hD hS => ?_)
  try dsimp only at h
  have hP : va_P D vwCl [zM am f, zA (kk 1) (am 3) 160 tp] H := hP
  have hD : va_D A [zM am f, zA (kk 1) (am 3) 160 tp] := hD
  refine lv_if_ne (tgt := 14) hx hb dX7_feed_9 (by decide) (fun c_2 => ?_) (fun c_2 => ?_)
  · have h := h.2 c_2
    refine lv_aload_n hx hb dX7_feed_14 rfl (lv_at hl 0 rfl) ?_
    refine va_get (D := D) (ci := 7) (v := .int (f 6)) (C := RX7) (T := TX7) (N := 29) hx hb hts in_X7 hown hK hP 0 rfl rfl 6 (Nat.le_of_ble_eq_true rfl) (hts _ q945) (fun _ h9 => h9) rfl dX7_feed_15 ?_
    refine lv_sipush (v := (160 : Int32)) hx hb dX7_feed_18 (by decide) ?_
    refine lv_icmp_ne (tgt := 27) hx hb dX7_feed_21 (by decide) (fun c_3 => ?_) (fun c_3 => ?_)
    · have h := h.2 c_3
      refine lv_aload_n hx hb dX7_feed_27 rfl (lv_at hl 0 rfl) ?_
      refine va_get (D := D) (ci := 7) (v := .ref (am 3)) (C := RX7) (T := TX7) (N := 29) hx hb hts in_X7 hown hK hP 0 rfl rfl 5 (Nat.le_of_ble_eq_true rfl) (hts _ q944) (fun _ h9 => h9) rfl dX7_feed_28 ?_
      refine lv_aload_n hx hb dX7_feed_31 rfl (lv_at hl 0 rfl) ?_
      refine va_get (D := D) (ci := 7) (v := .int (f 6)) (C := RX7) (T := TX7) (N := 29) hx hb hts in_X7 hown hK hP 0 rfl rfl 6 (Nat.le_of_ble_eq_true rfl) (hts _ q945) (fun _ h9 => h9) rfl dX7_feed_32 ?_
      refine lv_iload_n hx hb dX7_feed_35 rfl (lv_at hl 1 rfl) ?_
      obtain ⟨hin, h⟩ := h
      refine va_iast hx hb hK hP hD hS 1 1 rfl rfl hin dX7_feed_36 (fun H locs hP hD hS => ?_)
      have hP : va_P D vwCl [zM am f, zA (kk 1) (am 3) 160 (upd tp (f 6).toNatClampNeg p1)] H := hP
      have hD : va_D A [zM am f, zA (kk 1) (am 3) 160 (upd tp (f 6).toNatClampNeg p1)] := hD
      refine lv_aload_n hx hb dX7_feed_37 rfl (lv_at hl 0 rfl) ?_
      refine lv_dup hx hb dX7_feed_38 rfl ?_
      refine va_get (D := D) (ci := 7) (v := .int (f 6)) (C := RX7) (T := TX7) (N := 29) hx hb hts in_X7 hown hK hP 0 rfl rfl 6 (Nat.le_of_ble_eq_true rfl) (hts _ q945) (fun _ h9 => h9) rfl dX7_feed_39 ?_
      refine lv_iconst (v := (1 : Int32)) hx hb dX7_feed_42 (by decide) ?_
      refine lv_iadd hx hb dX7_feed_43 ?_
      refine va_put (D := D) (ci := 7) (v := .int ((f 6) + (1 : Int32))) (C := RX7) (T := TX7) (N := 29) hx hb hts in_X7 tyX7 tyX7_ok nmX7 hown hK hP hD hS 0 rfl rfl 6 (Nat.le_of_ble_eq_true rfl) (hts _ q945) (fun _ h9 => h9) rfl (tyX7_ok 6 (Nat.le_of_ble_eq_true rfl)) rfl rfl (Nat.le_of_ble_eq_true rfl) dX7_feed_44 (fun H locs hP hD hS => ?_)
      have hP : va_P D vwCl [zM am (upd f 6 ((f 6) + (1 : Int32))), zA (kk 1) (am 3) 160 (upd tp (f 6).toNatClampNeg p1)] H := hP
      have hD : va_D A [zM am (upd f 6 ((f 6) + (1 : Int32))), zA (kk 1) (am 3) 160 (upd tp (f 6).toNatClampNeg p1)] := hD
      refine lv_aload_n hx hb dX7_feed_47 rfl (lv_at hl 0 rfl) ?_
      refine va_get (D := D) (ci := 7) (v := .int ((f 6) + (1 : Int32))) (C := RX7) (T := TX7) (N := 29) hx hb hts in_X7 hown hK hP 0 rfl rfl 6 (Nat.le_of_ble_eq_true rfl) (hts _ q945) (fun _ h9 => h9) rfl dX7_feed_48 ?_
      exact zr_i hx hb hr hlk rfl hP hD hS ((upd f 6 ((f 6) + (1 : Int32))), (upd tp (f 6).toNatClampNeg p1)) [0, 1] rfl (by decide) dX7_feed_51 h
    · have h := h.1 c_3
      refine lv_bipush (v := (-3 : Int32)) hx hb dX7_feed_24 (by decide) ?_
      exact zr_i hx hb hr hlk rfl hP hD hS (f, tp) [0, 1] rfl (by decide) dX7_feed_26 h
  · have h := h.1 c_2
    refine lv_iconst (v := (-1 : Int32)) hx hb dX7_feed_12 (by decide) ?_
    exact zr_i hx hb hr hlk rfl hP hD hS (f, tp) [0, 1] rfl (by decide) dX7_feed_13 h
def wpX7_end (f : Nat → Int32) (p1 : Int32) (Q : Int32 → (Nat → Int32) → Prop) : Prop :=
  (wpX7_in (p1.toInt64) (0 : Int64) ((f 6).toInt64) (fun r_1 => ((r_1 = 0 → Q (-1 : Int32) f) ∧ (¬ r_1 = 0 → Q (f 6) (upd f 6 p1)))))
set_option maxHeartbeats 4000000 in
theorem metX7_end (l : Launch) (D : va_G) (kk : Nat → ClassId) (am : Nat → Nat) (sz : Nat) (f : Nat → Int32) (p1 : Int32) (Q : Int32 → (Nat → Int32) → Prop) (h : wpX7_end f p1 Q) : Met l yX7_end (ws_ yX7_end cX7_end 3 (some .int)) { frames := 1, cells := 0, slots := 0, locals := 25 } (va_Pc ([.ref (am 0), .int p1] : List Value) (zPc D kk [zM am f] sz)) (va_Qi (fun (r : Int32) (u : (Nat → Int32)) => Q r u) (zB D (va_A [zM am f] sz) (fun u : (Nat → Int32) => [zM am u])) (va_A [zM am f] sz)) 0 0 (va_A [zM am f] sz) := by
  refine zMet (Qc := fun A => va_Qi (fun (r : Int32) (u : (Nat → Int32)) => Q r u) (zB D A (fun u : (Nat → Int32) => [zM am u])) A) (by decide) (Nat.le_of_ble_eq_true rfl) ?_
  intro p e s m below meth c A X hP hD hS ls hl
  obtain ⟨hx, hb, hr, hml, hown, hts, hlk, hnm, hK, hN, hA⟩ := X
  have hown : s.vm.findClass "LoseLeagueModel" = some m.cls := hown
  have hl : lv_has ls 3 [(0, .ref (am 0)), (1, .int p1)] := hl
  unfold wpX7_end at h
  refine lv_iload_n hx hb dX7_end_0 rfl (lv_at hl 1 rfl) ?_
  refine lv_i2l hx hb dX7_end_1 rfl ?_
  refine lv_lconst (v := (0 : Int64)) hx hb dX7_end_2 (by decide) ?_
  refine lv_aload_n hx hb dX7_end_3 rfl (lv_at hl 0 rfl) ?_
  refine va_get (D := D) (ci := 7) (v := .int (f 6)) (C := RX7) (T := TX7) (N := 29) hx hb hts in_X7 hown hK hP 0 rfl rfl 6 (Nat.le_of_ble_eq_true rfl) (hts _ q945) (fun _ h9 => h9) rfl dX7_end_4 ?_
  refine lv_i2l hx hb dX7_end_7 rfl ?_
  refine zc_i (wc := []) (wr := [zM am f]) (w1 := (fun u : Unit => [])) (rest := []) [] [0] rfl rfl (by decide) (by decide) (by decide) hA hP hD hS (fun hP hD => va_runS (As := [.long (p1.toInt64), .long (0 : Int64), .long ((f 6).toInt64)]) (rest := []) ⟨hx, hb, hml, hown, hts⟩ (metX7_in l D kk _ (p1.toInt64) (0 : Int64) ((f 6).toInt64) _ h) (va_cwS 3 hts (lw_S q1033 q1034 q71 q1035) rfl rfl rfl pdX7_in.2 ⟨(Nat.le_of_ble_eq_true rfl), (Nat.le_of_ble_eq_true rfl)⟩) (zp_S hK hN hP hD) rfl rfl hl.1 rfl (lv_room (Nat.le_of_ble_eq_true rfl)) dX7_end_8 ⟨(Nat.le_of_ble_eq_true rfl), (Nat.le_of_ble_eq_true rfl)⟩) (fun r_1 u H locs h hP hD hS => ?_)
  try dsimp only at h
  have hP : va_P D vwCl [zM am f] H := hP
  have hD : va_D A [zM am f] := hD
  refine lv_if_ne (tgt := 16) hx hb dX7_end_11 (by decide) (fun c_2 => ?_) (fun c_2 => ?_)
  · have h := h.2 c_2
    refine lv_aload_n hx hb dX7_end_16 rfl (lv_at hl 0 rfl) ?_
    refine va_get (D := D) (ci := 7) (v := .int (f 6)) (C := RX7) (T := TX7) (N := 29) hx hb hts in_X7 hown hK hP 0 rfl rfl 6 (Nat.le_of_ble_eq_true rfl) (hts _ q945) (fun _ h9 => h9) rfl dX7_end_17 ?_
    refine lv_istore_n (lv' := [(2, .int (f 6)), (0, .ref (am 0)), (1, .int p1)]) hx hb dX7_end_20 rfl hl (by decide) rfl (fun ls hl => ?_)
    refine lv_aload_n hx hb dX7_end_21 rfl (lv_at hl 1 rfl) ?_
    refine lv_iload_n hx hb dX7_end_22 rfl (lv_at hl 2 rfl) ?_
    refine va_put (D := D) (ci := 7) (v := .int p1) (C := RX7) (T := TX7) (N := 29) hx hb hts in_X7 tyX7 tyX7_ok nmX7 hown hK hP hD hS 0 rfl rfl 6 (Nat.le_of_ble_eq_true rfl) (hts _ q945) (fun _ h9 => h9) rfl (tyX7_ok 6 (Nat.le_of_ble_eq_true rfl)) rfl rfl (Nat.le_of_ble_eq_true rfl) dX7_end_23 (fun H locs hP hD hS => ?_)
    have hP : va_P D vwCl [zM am (upd f 6 p1)] H := hP
    have hD : va_D A [zM am (upd f 6 p1)] := hD
    refine lv_iload_n hx hb dX7_end_26 rfl (lv_at hl 0 rfl) ?_
    exact zr_i hx hb hr hlk rfl hP hD hS ((upd f 6 p1)) [0] rfl (by decide) dX7_end_27 h
  · have h := h.1 c_2
    refine lv_iconst (v := (-1 : Int32)) hx hb dX7_end_14 (by decide) ?_
    exact zr_i hx hb hr hlk rfl hP hD hS (f) [0] rfl (by decide) dX7_end_15 h
def wpX7_byteAt (f : Nat → Int32) (tp : Nat → Int32) (p1 : Int32) (Q : Int32 → Prop) : Prop :=
  (((f 6) ≤ p1 → Q (-4 : Int32)) ∧ (¬ (f 6) ≤ p1 → (vp_in p1 160 ∧ Q (tp p1.toNatClampNeg))))
set_option maxHeartbeats 4000000 in
theorem metX7_byteAt (l : Launch) (D : va_G) (kk : Nat → ClassId) (am : Nat → Nat) (sz : Nat) (f : Nat → Int32) (tp : Nat → Int32) (p1 : Int32) (Q : Int32 → Prop) (h : wpX7_byteAt f tp p1 Q) : Met l yX7_byteAt (ws_ yX7_byteAt cX7_byteAt 2 (some .int)) { frames := 0, cells := 0, slots := 0, locals := 0 } (va_Pc ([.ref (am 0), .int p1] : List Value) (zPc D kk [zM am f, zA (kk 1) (am 3) 160 tp] sz)) (va_Qi (fun (r : Int32) (u : Unit) => Q r ) (zB D (va_A [zM am f, zA (kk 1) (am 3) 160 tp] sz) (fun u : Unit => [zM am f, zA (kk 1) (am 3) 160 tp])) (va_A [zM am f, zA (kk 1) (am 3) 160 tp] sz)) 0 0 (va_A [zM am f, zA (kk 1) (am 3) 160 tp] sz) := by
  refine zMet (Qc := fun A => va_Qi (fun (r : Int32) (u : Unit) => Q r ) (zB D A (fun u : Unit => [zM am f, zA (kk 1) (am 3) 160 tp])) A) (by decide) (Nat.le_of_ble_eq_true rfl) ?_
  intro p e s m below meth c A X hP hD hS ls hl
  obtain ⟨hx, hb, hr, hml, hown, hts, hlk, hnm, hK, hN, hA⟩ := X
  have hown : s.vm.findClass "LoseLeagueModel" = some m.cls := hown
  have hl : lv_has ls 2 [(0, .ref (am 0)), (1, .int p1)] := hl
  unfold wpX7_byteAt at h
  refine lv_iload_n hx hb dX7_byteAt_0 rfl (lv_at hl 1 rfl) ?_
  refine lv_aload_n hx hb dX7_byteAt_1 rfl (lv_at hl 0 rfl) ?_
  refine va_get (D := D) (ci := 7) (v := .int (f 6)) (C := RX7) (T := TX7) (N := 29) hx hb hts in_X7 hown hK hP 0 rfl rfl 6 (Nat.le_of_ble_eq_true rfl) (hts _ q945) (fun _ h9 => h9) rfl dX7_byteAt_2 ?_
  refine lv_icmp_ge (tgt := 17) hx hb dX7_byteAt_5 (by decide) (fun c_1 => ?_) (fun c_1 => ?_)
  · have h := h.1 c_1
    refine lv_bipush (v := (-4 : Int32)) hx hb dX7_byteAt_17 (by decide) ?_
    exact zr_i hx hb hr hlk rfl hP hD hS () [0, 1] rfl (by decide) dX7_byteAt_19 h
  · have h := h.2 c_1
    refine lv_aload_n hx hb dX7_byteAt_8 rfl (lv_at hl 0 rfl) ?_
    refine va_get (D := D) (ci := 7) (v := .ref (am 3)) (C := RX7) (T := TX7) (N := 29) hx hb hts in_X7 hown hK hP 0 rfl rfl 5 (Nat.le_of_ble_eq_true rfl) (hts _ q944) (fun _ h9 => h9) rfl dX7_byteAt_9 ?_
    refine lv_iload_n hx hb dX7_byteAt_12 rfl (lv_at hl 1 rfl) ?_
    obtain ⟨hin, h⟩ := h
    refine va_iald hx hb hK hP 1 1 rfl rfl hin dX7_byteAt_13 ?_
    refine lv_goto (tgt := 19) hx hb dX7_byteAt_14 (by decide) ?_
    exact zr_i hx hb hr hlk rfl hP hD hS () [0, 1] rfl (by decide) dX7_byteAt_19 h
def wpX7_fails (f : Nat → Int32) (p1 : Int32) (Q : (Nat → Int32) → Prop) : Prop :=
  (((f 8) = 0 → Q (upd (upd f 8 p1) 9 (f 11))) ∧ (¬ (f 8) = 0 → Q f))
set_option maxHeartbeats 4000000 in
theorem metX7_fails (l : Launch) (D : va_G) (kk : Nat → ClassId) (am : Nat → Nat) (sz : Nat) (f : Nat → Int32) (p1 : Int32) (Q : (Nat → Int32) → Prop) (h : wpX7_fails f p1 Q) : Met l yX7_fails (ws_ yX7_fails cX7_fails 2 none) { frames := 0, cells := 0, slots := 0, locals := 0 } (va_Pc ([.ref (am 0), .int p1] : List Value) (zPc D kk [zM am f] sz)) (va_Qv (fun (u : (Nat → Int32)) => Q u) (zB D (va_A [zM am f] sz) (fun u : (Nat → Int32) => [zM am u])) (va_A [zM am f] sz)) 0 0 (va_A [zM am f] sz) := by
  refine zMet (Qc := fun A => va_Qv (fun (u : (Nat → Int32)) => Q u) (zB D A (fun u : (Nat → Int32) => [zM am u])) A) (by decide) (Nat.le_of_ble_eq_true rfl) ?_
  intro p e s m below meth c A X hP hD hS ls hl
  obtain ⟨hx, hb, hr, hml, hown, hts, hlk, hnm, hK, hN, hA⟩ := X
  have hown : s.vm.findClass "LoseLeagueModel" = some m.cls := hown
  have hl : lv_has ls 2 [(0, .ref (am 0)), (1, .int p1)] := hl
  unfold wpX7_fails at h
  refine lv_aload_n hx hb dX7_fails_0 rfl (lv_at hl 0 rfl) ?_
  refine va_get (D := D) (ci := 7) (v := .int (f 8)) (C := RX7) (T := TX7) (N := 29) hx hb hts in_X7 hown hK hP 0 rfl rfl 8 (Nat.le_of_ble_eq_true rfl) (hts _ q947) (fun _ h9 => h9) rfl dX7_fails_1 ?_
  refine lv_if_ne (tgt := 20) hx hb dX7_fails_4 (by decide) (fun c_1 => ?_) (fun c_1 => ?_)
  · have h := h.2 c_1
    exact zr_v hx hb hr hlk hP hD hS (f) [0] rfl (by decide) dX7_fails_20 h
  · have h := h.1 c_1
    refine lv_aload_n hx hb dX7_fails_7 rfl (lv_at hl 0 rfl) ?_
    refine lv_iload_n hx hb dX7_fails_8 rfl (lv_at hl 1 rfl) ?_
    refine va_put (D := D) (ci := 7) (v := .int p1) (C := RX7) (T := TX7) (N := 29) hx hb hts in_X7 tyX7 tyX7_ok nmX7 hown hK hP hD hS 0 rfl rfl 8 (Nat.le_of_ble_eq_true rfl) (hts _ q947) (fun _ h9 => h9) rfl (tyX7_ok 8 (Nat.le_of_ble_eq_true rfl)) rfl rfl (Nat.le_of_ble_eq_true rfl) dX7_fails_9 (fun H locs hP hD hS => ?_)
    have hP : va_P D vwCl [zM am (upd f 8 p1)] H := hP
    have hD : va_D A [zM am (upd f 8 p1)] := hD
    refine lv_aload_n hx hb dX7_fails_12 rfl (lv_at hl 0 rfl) ?_
    refine lv_aload_n hx hb dX7_fails_13 rfl (lv_at hl 0 rfl) ?_
    refine va_get (D := D) (ci := 7) (v := .int (f 11)) (C := RX7) (T := TX7) (N := 29) hx hb hts in_X7 hown hK hP 0 rfl rfl 11 (Nat.le_of_ble_eq_true rfl) (hts _ q950) (fun _ h9 => h9) rfl dX7_fails_14 ?_
    refine va_put (D := D) (ci := 7) (v := .int (f 11)) (C := RX7) (T := TX7) (N := 29) hx hb hts in_X7 tyX7 tyX7_ok nmX7 hown hK hP hD hS 0 rfl rfl 9 (Nat.le_of_ble_eq_true rfl) (hts _ q948) (fun _ h9 => h9) rfl (tyX7_ok 9 (Nat.le_of_ble_eq_true rfl)) rfl rfl (Nat.le_of_ble_eq_true rfl) dX7_fails_17 (fun H locs hP hD hS => ?_)
    have hP : va_P D vwCl [zM am (upd (upd f 8 p1) 9 (f 11))] H := hP
    have hD : va_D A [zM am (upd (upd f 8 p1) 9 (f 11))] := hD
    exact zr_v hx hb hr hlk hP hD hS ((upd (upd f 8 p1) 9 (f 11))) [0] rfl (by decide) dX7_fails_20 h
def wpX7_nameHere_105 (f : Nat → Int32) (tp : Nat → Int32) (en : Nat → Int32) (le : Nat → Int32) (Q : Int32 → Prop) (k2 : Int32 → Prop) (k50 : Int32 → Int32 → Int32 → Prop) (x1 : Int32) (x2 : Int32) : Prop :=
  ((x2 = 0 → k2 (x1 + 1)) ∧ (¬ x2 = 0 → Q x1))
def wpX7_nameHere_98 (f : Nat → Int32) (tp : Nat → Int32) (en : Nat → Int32) (le : Nat → Int32) (Q : Int32 → Prop) (k2 : Int32 → Prop) (k50 : Int32 → Int32 → Int32 → Prop) (x1 : Int32) (x3 : Int32) (s0 : Int32) : Prop :=
  k50 x1 s0 (x3 + 1)
def wbX7_nameHere_50 (f : Nat → Int32) (tp : Nat → Int32) (en : Nat → Int32) (le : Nat → Int32) (Q : Int32 → Prop) (k2 : Int32 → Prop) (k50 : Int32 → Int32 → Int32 → Prop) (x1 : Int32) (x2 : Int32) (x3 : Int32) : Prop :=
  ((x2 = 0 → wpX7_nameHere_105 f tp en le Q k2 k50 x1 x2) ∧ (¬ x2 = 0 → ((((f 10) - (f 11)) ≤ x3 → wpX7_nameHere_105 f tp en le Q k2 k50 x1 x2) ∧ (¬ ((f 10) - (f 11)) ≤ x3 → (wpX7_byteAt f tp ((f 11) + x3) (fun r_6 => (vp_in x1 6 ∧ (vp_in ((en x1.toNatClampNeg) + x3) 26 ∧ ((r_6 = (le ((en x1.toNatClampNeg) + x3).toNatClampNeg) → wpX7_nameHere_98 f tp en le Q k2 k50 x1 x3 (1 : Int32)) ∧ (¬ r_6 = (le ((en x1.toNatClampNeg) + x3).toNatClampNeg) → wpX7_nameHere_98 f tp en le Q k2 k50 x1 x3 (0 : Int32)))))))))))
def wpX7_nameHere_50 (f : Nat → Int32) (tp : Nat → Int32) (en : Nat → Int32) (le : Nat → Int32) (Q : Int32 → Prop) (k2 : Int32 → Prop) (n : Nat) : Int32 → Int32 → Int32 → Prop :=
  Nat.rec (motive := fun _ => Int32 → Int32 → Int32 → Prop) (fun _ _ _ => False) (fun _ k => wbX7_nameHere_50 f tp en le Q k2 k) n
def wpX7_nameHere_47 (f : Nat → Int32) (tp : Nat → Int32) (en : Nat → Int32) (le : Nat → Int32) (Q : Int32 → Prop) (k2 : Int32 → Prop) (x1 : Int32) (s0 : Int32) : Prop :=
  (∃ n : Nat, wpX7_nameHere_50 f tp en le Q k2 n x1 s0 (0 : Int32))
def wbX7_nameHere_2 (f : Nat → Int32) (tp : Nat → Int32) (en : Nat → Int32) (le : Nat → Int32) (Q : Int32 → Prop) (k2 : Int32 → Prop) (x1 : Int32) : Prop :=
  (((5 : Int32) ≤ x1 → Q (-4 : Int32)) ∧ (¬ (5 : Int32) ≤ x1 → (((f 12) = (1 : Int32) → (vp_in (x1 + (1 : Int32)) 6 ∧ (vp_in x1 6 ∧ ((((f 10) - (f 11)) = ((en (x1 + (1 : Int32)).toNatClampNeg) - (en x1.toNatClampNeg)) → wpX7_nameHere_47 f tp en le Q k2 x1 (1 : Int32)) ∧ (¬ ((f 10) - (f 11)) = ((en (x1 + (1 : Int32)).toNatClampNeg) - (en x1.toNatClampNeg)) → wpX7_nameHere_47 f tp en le Q k2 x1 (0 : Int32)))))) ∧ (¬ (f 12) = (1 : Int32) → Q (-4 : Int32)))))
def wpX7_nameHere_2 (f : Nat → Int32) (tp : Nat → Int32) (en : Nat → Int32) (le : Nat → Int32) (Q : Int32 → Prop) (n : Nat) : Int32 → Prop :=
  Nat.rec (motive := fun _ => Int32 → Prop) (fun _ => False) (fun _ k => wbX7_nameHere_2 f tp en le Q  k) n
def wpX7_nameHere (f : Nat → Int32) (tp : Nat → Int32) (en : Nat → Int32) (le : Nat → Int32) (Q : Int32 → Prop) : Prop :=
  (∃ n : Nat, wpX7_nameHere_2 f tp en le Q  n (0 : Int32))
set_option maxHeartbeats 4000000 in
theorem metX7_nameHere (l : Launch) (D : va_G) (kk : Nat → ClassId) (am : Nat → Nat) (sz : Nat) (f : Nat → Int32) (tp : Nat → Int32) (en : Nat → Int32) (le : Nat → Int32) (Q : Int32 → Prop) (h : wpX7_nameHere f tp en le Q) : Met l yX7_nameHere (ws_ yX7_nameHere cX7_nameHere 4 (some .int)) { frames := 1, cells := 0, slots := 0, locals := 21 } (va_Pc ([.ref (am 0)] : List Value) (zPc D kk [zM am f, zA (kk 1) (am 3) 160 tp, zA (kk 1) (am 4) 6 en, zA (kk 1) (am 5) 26 le] sz)) (va_Qi (fun (r : Int32) (u : Unit) => Q r ) (zB D (va_A [zM am f, zA (kk 1) (am 3) 160 tp, zA (kk 1) (am 4) 6 en, zA (kk 1) (am 5) 26 le] sz) (fun u : Unit => [zM am f, zA (kk 1) (am 3) 160 tp, zA (kk 1) (am 4) 6 en, zA (kk 1) (am 5) 26 le])) (va_A [zM am f, zA (kk 1) (am 3) 160 tp, zA (kk 1) (am 4) 6 en, zA (kk 1) (am 5) 26 le] sz)) 0 0 (va_A [zM am f, zA (kk 1) (am 3) 160 tp, zA (kk 1) (am 4) 6 en, zA (kk 1) (am 5) 26 le] sz) := by
  refine zMet (Qc := fun A => va_Qi (fun (r : Int32) (u : Unit) => Q r ) (zB D A (fun u : Unit => [zM am f, zA (kk 1) (am 3) 160 tp, zA (kk 1) (am 4) 6 en, zA (kk 1) (am 5) 26 le])) A) (by decide) (Nat.le_of_ble_eq_true rfl) ?_
  intro p e s m below meth c A X hP hD hS ls hl
  obtain ⟨hx, hb, hr, hml, hown, hts, hlk, hnm, hK, hN, hA⟩ := X
  have hown : s.vm.findClass "LoseLeagueModel" = some m.cls := hown
  have hl : lv_has ls 4 [(0, .ref (am 0))] := hl
  unfold wpX7_nameHere at h
  refine lv_iconst (v := (0 : Int32)) hx hb dX7_nameHere_0 (by decide) ?_
  have cut_2 : ∀ (nl2 : Nat) (x1 : Int32), wpX7_nameHere_2 f tp en le Q  nl2 x1 → ∀ (H : Heap) (locs : List Loc), va_P D vwCl [zM am f, zA (kk 1) (am 3) 160 tp, zA (kk 1) (am 4) 6 en, zA (kk 1) (am 5) 26 le] H → va_D A [zM am f, zA (kk 1) (am 3) 160 tp, zA (kk 1) (am 4) 6 en, zA (kk 1) (am 5) 26 le] → va_S A s.heap H locs → ∀ ls : Array Slot, lv_has ls 4 [(1, .int x1), (0, .ref (am 0))] → W p l e { frames := 1, cells := 0, slots := 0, locals := 21 } s m ([.ref (am 0)] : List Value).toArray below meth c H locs 0 0 (MQ below (va_Qi (fun (r : Int32) (u : Unit) => Q r ) (zB D A (fun u : Unit => [zM am f, zA (kk 1) (am 3) 160 tp, zA (kk 1) (am 4) 6 en, zA (kk 1) (am 5) 26 le])) A) ([.ref (am 0)] : List Value).toArray s 0 0 A) (F0 m 2 ls []) := by
    intro nl2
    induction nl2 with
    | zero => intro x1 h; exact absurd h id
    | succ nl2 ih_2 =>
      intro x1 h H locs hP hD hS ls hl
      have h : wbX7_nameHere_2 f tp en le Q  (wpX7_nameHere_2 f tp en le Q  nl2) x1 := h
      unfold wbX7_nameHere_2 at h
      refine lv_iload_n hx hb dX7_nameHere_2 rfl (lv_at hl 0 rfl) ?_
      refine lv_iconst (v := (5 : Int32)) hx hb dX7_nameHere_3 (by decide) ?_
      refine lv_icmp_ge (tgt := 117) hx hb dX7_nameHere_4 (by decide) (fun c_1 => ?_) (fun c_1 => ?_)
      · have h := h.1 c_1
        refine lv_bipush (v := (-4 : Int32)) hx hb dX7_nameHere_117 (by decide) ?_
        exact zr_i hx hb hr hlk rfl hP hD hS () [0, 1, 2, 3] rfl (by decide) dX7_nameHere_119 h
      · have h := h.2 c_1
        refine lv_aload_n hx hb dX7_nameHere_7 rfl (lv_at hl 1 rfl) ?_
        refine va_get (D := D) (ci := 7) (v := .int (f 12)) (C := RX7) (T := TX7) (N := 29) hx hb hts in_X7 hown hK hP 0 rfl rfl 12 (Nat.le_of_ble_eq_true rfl) (hts _ q951) (fun _ h9 => h9) rfl dX7_nameHere_8 ?_
        refine lv_iconst (v := (1 : Int32)) hx hb dX7_nameHere_11 (by decide) ?_
        refine lv_icmp_ne (tgt := 117) hx hb dX7_nameHere_12 (by decide) (fun c_2 => ?_) (fun c_2 => ?_)
        · have h := h.2 c_2
          refine lv_bipush (v := (-4 : Int32)) hx hb dX7_nameHere_117 (by decide) ?_
          exact zr_i hx hb hr hlk rfl hP hD hS () [0, 1, 2, 3] rfl (by decide) dX7_nameHere_119 h
        · have h := h.1 c_2
          refine lv_aload_n hx hb dX7_nameHere_15 rfl (lv_at hl 1 rfl) ?_
          refine va_get (D := D) (ci := 7) (v := .int (f 10)) (C := RX7) (T := TX7) (N := 29) hx hb hts in_X7 hown hK hP 0 rfl rfl 10 (Nat.le_of_ble_eq_true rfl) (hts _ q949) (fun _ h9 => h9) rfl dX7_nameHere_16 ?_
          refine lv_aload_n hx hb dX7_nameHere_19 rfl (lv_at hl 1 rfl) ?_
          refine va_get (D := D) (ci := 7) (v := .int (f 11)) (C := RX7) (T := TX7) (N := 29) hx hb hts in_X7 hown hK hP 0 rfl rfl 11 (Nat.le_of_ble_eq_true rfl) (hts _ q950) (fun _ h9 => h9) rfl dX7_nameHere_20 ?_
          refine lv_isub hx hb dX7_nameHere_23 ?_
          refine lv_aload_n hx hb dX7_nameHere_24 rfl (lv_at hl 1 rfl) ?_
          refine va_get (D := D) (ci := 7) (v := .ref (am 4)) (C := RX7) (T := TX7) (N := 29) hx hb hts in_X7 hown hK hP 0 rfl rfl 14 (Nat.le_of_ble_eq_true rfl) (hts _ q953) (fun _ h9 => h9) rfl dX7_nameHere_25 ?_
          refine lv_iload_n hx hb dX7_nameHere_28 rfl (lv_at hl 0 rfl) ?_
          refine lv_iconst (v := (1 : Int32)) hx hb dX7_nameHere_29 (by decide) ?_
          refine lv_iadd hx hb dX7_nameHere_30 ?_
          obtain ⟨hin, h⟩ := h
          refine va_iald hx hb hK hP 2 1 rfl rfl hin dX7_nameHere_31 ?_
          refine lv_aload_n hx hb dX7_nameHere_32 rfl (lv_at hl 1 rfl) ?_
          refine va_get (D := D) (ci := 7) (v := .ref (am 4)) (C := RX7) (T := TX7) (N := 29) hx hb hts in_X7 hown hK hP 0 rfl rfl 14 (Nat.le_of_ble_eq_true rfl) (hts _ q953) (fun _ h9 => h9) rfl dX7_nameHere_33 ?_
          refine lv_iload_n hx hb dX7_nameHere_36 rfl (lv_at hl 0 rfl) ?_
          obtain ⟨hin, h⟩ := h
          refine va_iald hx hb hK hP 2 1 rfl rfl hin dX7_nameHere_37 ?_
          refine lv_isub hx hb dX7_nameHere_38 ?_
          have cut_47 : ∀ (x1 : Int32) (s0 : Int32), wpX7_nameHere_47 f tp en le Q (wpX7_nameHere_2 f tp en le Q  nl2) x1 s0 → ∀ (H : Heap) (locs : List Loc), va_P D vwCl [zM am f, zA (kk 1) (am 3) 160 tp, zA (kk 1) (am 4) 6 en, zA (kk 1) (am 5) 26 le] H → va_D A [zM am f, zA (kk 1) (am 3) 160 tp, zA (kk 1) (am 4) 6 en, zA (kk 1) (am 5) 26 le] → va_S A s.heap H locs → ∀ ls : Array Slot, lv_has ls 4 [(1, .int x1), (0, .ref (am 0))] → W p l e { frames := 1, cells := 0, slots := 0, locals := 21 } s m ([.ref (am 0)] : List Value).toArray below meth c H locs 0 0 (MQ below (va_Qi (fun (r : Int32) (u : Unit) => Q r ) (zB D A (fun u : Unit => [zM am f, zA (kk 1) (am 3) 160 tp, zA (kk 1) (am 4) 6 en, zA (kk 1) (am 5) 26 le])) A) ([.ref (am 0)] : List Value).toArray s 0 0 A) (F0 m 47 ls [.int s0]) := by
            intro x1 s0 h H locs hP hD hS ls hl
            unfold wpX7_nameHere_47 at h
            refine lv_istore_n (lv' := [(2, .int s0), (1, .int x1), (0, .ref (am 0))]) hx hb dX7_nameHere_47 rfl hl (by decide) rfl (fun ls hl => ?_)
            refine lv_iconst (v := (0 : Int32)) hx hb dX7_nameHere_48 (by decide) ?_
            have cut_50 : ∀ (nl50 : Nat) (x1 : Int32) (x2 : Int32) (x3 : Int32), wpX7_nameHere_50 f tp en le Q (wpX7_nameHere_2 f tp en le Q  nl2) nl50 x1 x2 x3 → ∀ (H : Heap) (locs : List Loc), va_P D vwCl [zM am f, zA (kk 1) (am 3) 160 tp, zA (kk 1) (am 4) 6 en, zA (kk 1) (am 5) 26 le] H → va_D A [zM am f, zA (kk 1) (am 3) 160 tp, zA (kk 1) (am 4) 6 en, zA (kk 1) (am 5) 26 le] → va_S A s.heap H locs → ∀ ls : Array Slot, lv_has ls 4 [(1, .int x1), (2, .int x2), (3, .int x3), (0, .ref (am 0))] → W p l e { frames := 1, cells := 0, slots := 0, locals := 21 } s m ([.ref (am 0)] : List Value).toArray below meth c H locs 0 0 (MQ below (va_Qi (fun (r : Int32) (u : Unit) => Q r ) (zB D A (fun u : Unit => [zM am f, zA (kk 1) (am 3) 160 tp, zA (kk 1) (am 4) 6 en, zA (kk 1) (am 5) 26 le])) A) ([.ref (am 0)] : List Value).toArray s 0 0 A) (F0 m 50 ls []) := by
              intro nl50
              induction nl50 with
              | zero => intro x1 x2 x3 h; exact absurd h id
              | succ nl50 ih_50 =>
                intro x1 x2 x3 h H locs hP hD hS ls hl
                have h : wbX7_nameHere_50 f tp en le Q (wpX7_nameHere_2 f tp en le Q  nl2) (wpX7_nameHere_50 f tp en le Q (wpX7_nameHere_2 f tp en le Q  nl2) nl50) x1 x2 x3 := h
                unfold wbX7_nameHere_50 at h
                refine lv_iload_n hx hb dX7_nameHere_50 rfl (lv_at hl 1 rfl) ?_
                have cut_105 : ∀ (x1 : Int32) (x2 : Int32), wpX7_nameHere_105 f tp en le Q (wpX7_nameHere_2 f tp en le Q  nl2) (wpX7_nameHere_50 f tp en le Q (wpX7_nameHere_2 f tp en le Q  nl2) nl50) x1 x2 → ∀ (H : Heap) (locs : List Loc), va_P D vwCl [zM am f, zA (kk 1) (am 3) 160 tp, zA (kk 1) (am 4) 6 en, zA (kk 1) (am 5) 26 le] H → va_D A [zM am f, zA (kk 1) (am 3) 160 tp, zA (kk 1) (am 4) 6 en, zA (kk 1) (am 5) 26 le] → va_S A s.heap H locs → ∀ ls : Array Slot, lv_has ls 4 [(1, .int x1), (2, .int x2), (0, .ref (am 0))] → W p l e { frames := 1, cells := 0, slots := 0, locals := 21 } s m ([.ref (am 0)] : List Value).toArray below meth c H locs 0 0 (MQ below (va_Qi (fun (r : Int32) (u : Unit) => Q r ) (zB D A (fun u : Unit => [zM am f, zA (kk 1) (am 3) 160 tp, zA (kk 1) (am 4) 6 en, zA (kk 1) (am 5) 26 le])) A) ([.ref (am 0)] : List Value).toArray s 0 0 A) (F0 m 105 ls []) := by
                  intro x1 x2 h H locs hP hD hS ls hl
                  unfold wpX7_nameHere_105 at h
                  refine lv_iload_n hx hb dX7_nameHere_105 rfl (lv_at hl 1 rfl) ?_
                  refine lv_if_eq (tgt := 111) hx hb dX7_nameHere_106 (by decide) (fun c_3 => ?_) (fun c_3 => ?_)
                  · have h := h.1 c_3
                    refine lv_iinc (v := (x1 + 1)) (lv' := [(1, .int (x1 + 1)), (2, .int x2), (0, .ref (am 0))]) hx hb dX7_nameHere_111 hl (k := 0) rfl rfl (by decide) rfl (fun ls hl => ?_)
                    refine lv_goto (tgt := 2) hx hb dX7_nameHere_114 (by decide) ?_
                    exact ih_2 (x1 + 1) h _ _ hP hD hS _ (lv_sub hl [0, 2] rfl)
                  · have h := h.2 c_3
                    refine lv_iload_n hx hb dX7_nameHere_109 rfl (lv_at hl 0 rfl) ?_
                    exact zr_i hx hb hr hlk rfl hP hD hS () [0, 1, 2, 3] rfl (by decide) dX7_nameHere_110 h
                refine lv_if_eq (tgt := 105) hx hb dX7_nameHere_51 (by decide) (fun c_4 => ?_) (fun c_4 => ?_)
                · have h := h.1 c_4
                  exact cut_105 x1 x2 h _ _ hP hD hS _ (lv_sub hl [0, 1, 3] rfl)
                · have h := h.2 c_4
                  refine lv_iload_n hx hb dX7_nameHere_54 rfl (lv_at hl 2 rfl) ?_
                  refine lv_aload_n hx hb dX7_nameHere_55 rfl (lv_at hl 3 rfl) ?_
                  refine va_get (D := D) (ci := 7) (v := .int (f 10)) (C := RX7) (T := TX7) (N := 29) hx hb hts in_X7 hown hK hP 0 rfl rfl 10 (Nat.le_of_ble_eq_true rfl) (hts _ q949) (fun _ h9 => h9) rfl dX7_nameHere_56 ?_
                  refine lv_aload_n hx hb dX7_nameHere_59 rfl (lv_at hl 3 rfl) ?_
                  refine va_get (D := D) (ci := 7) (v := .int (f 11)) (C := RX7) (T := TX7) (N := 29) hx hb hts in_X7 hown hK hP 0 rfl rfl 11 (Nat.le_of_ble_eq_true rfl) (hts _ q950) (fun _ h9 => h9) rfl dX7_nameHere_60 ?_
                  refine lv_isub hx hb dX7_nameHere_63 ?_
                  refine lv_icmp_ge (tgt := 105) hx hb dX7_nameHere_64 (by decide) (fun c_5 => ?_) (fun c_5 => ?_)
                  · have h := h.1 c_5
                    exact cut_105 x1 x2 h _ _ hP hD hS _ (lv_sub hl [0, 1, 3] rfl)
                  · have h := h.2 c_5
                    refine lv_aload_n hx hb dX7_nameHere_67 rfl (lv_at hl 3 rfl) ?_
                    refine lv_aload_n hx hb dX7_nameHere_68 rfl (lv_at hl 3 rfl) ?_
                    refine va_get (D := D) (ci := 7) (v := .int (f 11)) (C := RX7) (T := TX7) (N := 29) hx hb hts in_X7 hown hK hP 0 rfl rfl 11 (Nat.le_of_ble_eq_true rfl) (hts _ q950) (fun _ h9 => h9) rfl dX7_nameHere_69 ?_
                    refine lv_iload_n hx hb dX7_nameHere_72 rfl (lv_at hl 2 rfl) ?_
                    refine lv_iadd hx hb dX7_nameHere_73 ?_
                    have hrc := va_recv hK hP (ci := 7) (q0 := 0) rfl rfl
                    refine zc_i (wc := [zM am f, zA (kk 1) (am 3) 160 tp]) (wr := [zA (kk 1) (am 4) 6 en, zA (kk 1) (am 5) 26 le]) (w1 := (fun u : Unit => [zM am f, zA (kk 1) (am 3) 160 tp])) (rest := []) [0, 1] [2, 3] rfl rfl (by decide) (by decide) (by decide) hA hP hD hS (fun hP hD => va_runV (As := [.int ((f 11) + x3)]) (rest := []) ⟨hx, hb, hml, hown, hts⟩ (metX7_byteAt l D kk am _ f tp ((f 11) + x3) _ h) (cwV 1 hts (lw_V q1048 q1050 qs35 q71 q1051) rfl rfl rfl pdX7_byteAt ⟨(Nat.le_of_ble_eq_true rfl), (Nat.le_of_ble_eq_true rfl)⟩) (zp_V hK hN hrc hP hD) rfl rfl hl.1 rfl (lv_room (Nat.le_of_ble_eq_true rfl)) dX7_nameHere_74 ⟨(Nat.le_of_ble_eq_true rfl), (Nat.le_of_ble_eq_true rfl)⟩) (fun r_6 u H locs h hP hD hS => ?_)
                    try dsimp only at h
                    have hP : va_P D vwCl [zA (kk 1) (am 4) 6 en, zA (kk 1) (am 5) 26 le, zM am f, zA (kk 1) (am 3) 160 tp] H := hP
                    have hD : va_D A [zA (kk 1) (am 4) 6 en, zA (kk 1) (am 5) 26 le, zM am f, zA (kk 1) (am 3) 160 tp] := hD
                    refine lv_aload_n hx hb dX7_nameHere_77 rfl (lv_at hl 3 rfl) ?_
                    refine va_get (D := D) (ci := 7) (v := .ref (am 5)) (C := RX7) (T := TX7) (N := 29) hx hb hts in_X7 hown hK hP 2 rfl rfl 15 (Nat.le_of_ble_eq_true rfl) (hts _ q954) (fun _ h9 => h9) rfl dX7_nameHere_78 ?_
                    refine lv_aload_n hx hb dX7_nameHere_81 rfl (lv_at hl 3 rfl) ?_
                    refine va_get (D := D) (ci := 7) (v := .ref (am 4)) (C := RX7) (T := TX7) (N := 29) hx hb hts in_X7 hown hK hP 2 rfl rfl 14 (Nat.le_of_ble_eq_true rfl) (hts _ q953) (fun _ h9 => h9) rfl dX7_nameHere_82 ?_
                    refine lv_iload_n hx hb dX7_nameHere_85 rfl (lv_at hl 0 rfl) ?_
                    obtain ⟨hin, h⟩ := h
                    refine va_iald hx hb hK hP 0 1 rfl rfl hin dX7_nameHere_86 ?_
                    refine lv_iload_n hx hb dX7_nameHere_87 rfl (lv_at hl 2 rfl) ?_
                    refine lv_iadd hx hb dX7_nameHere_88 ?_
                    obtain ⟨hin, h⟩ := h
                    refine va_iald hx hb hK hP 1 1 rfl rfl hin dX7_nameHere_89 ?_
                    have cut_98 : ∀ (x1 : Int32) (x3 : Int32) (s0 : Int32), wpX7_nameHere_98 f tp en le Q (wpX7_nameHere_2 f tp en le Q  nl2) (wpX7_nameHere_50 f tp en le Q (wpX7_nameHere_2 f tp en le Q  nl2) nl50) x1 x3 s0 → ∀ (H : Heap) (locs : List Loc), va_P D vwCl [zM am f, zA (kk 1) (am 3) 160 tp, zA (kk 1) (am 4) 6 en, zA (kk 1) (am 5) 26 le] H → va_D A [zM am f, zA (kk 1) (am 3) 160 tp, zA (kk 1) (am 4) 6 en, zA (kk 1) (am 5) 26 le] → va_S A s.heap H locs → ∀ ls : Array Slot, lv_has ls 4 [(1, .int x1), (3, .int x3), (0, .ref (am 0))] → W p l e { frames := 1, cells := 0, slots := 0, locals := 21 } s m ([.ref (am 0)] : List Value).toArray below meth c H locs 0 0 (MQ below (va_Qi (fun (r : Int32) (u : Unit) => Q r ) (zB D A (fun u : Unit => [zM am f, zA (kk 1) (am 3) 160 tp, zA (kk 1) (am 4) 6 en, zA (kk 1) (am 5) 26 le])) A) ([.ref (am 0)] : List Value).toArray s 0 0 A) (F0 m 98 ls [.int s0]) := by
                      intro x1 x3 s0 h H locs hP hD hS ls hl
                      unfold wpX7_nameHere_98 at h
                      refine lv_istore_n (lv' := [(2, .int s0), (1, .int x1), (3, .int x3), (0, .ref (am 0))]) hx hb dX7_nameHere_98 rfl hl (by decide) rfl (fun ls hl => ?_)
                      refine lv_iinc (v := (x3 + 1)) (lv' := [(3, .int (x3 + 1)), (2, .int s0), (1, .int x1), (0, .ref (am 0))]) hx hb dX7_nameHere_99 hl (k := 2) rfl rfl (by decide) rfl (fun ls hl => ?_)
                      refine lv_goto (tgt := 50) hx hb dX7_nameHere_102 (by decide) ?_
                      exact ih_50 x1 s0 (x3 + 1) h _ _ hP hD hS _ (lv_sub hl [2, 1, 0, 3] rfl)
                    refine lv_icmp_ne (tgt := 97) hx hb dX7_nameHere_90 (by decide) (fun c_7 => ?_) (fun c_7 => ?_)
                    · have h := h.2 c_7
                      refine lv_iconst (v := (0 : Int32)) hx hb dX7_nameHere_97 (by decide) ?_
                      exact cut_98 x1 x3 (0 : Int32) h _ _ (hP.sub [2, 3, 0, 1] rfl) (hD.sub [2, 3, 0, 1] (by decide) rfl) hS _ (lv_sub hl [0, 2, 3] rfl)
                    · have h := h.1 c_7
                      refine lv_iconst (v := (1 : Int32)) hx hb dX7_nameHere_93 (by decide) ?_
                      refine lv_goto (tgt := 98) hx hb dX7_nameHere_94 (by decide) ?_
                      exact cut_98 x1 x3 (1 : Int32) h _ _ (hP.sub [2, 3, 0, 1] rfl) (hD.sub [2, 3, 0, 1] (by decide) rfl) hS _ (lv_sub hl [0, 2, 3] rfl)
            refine lv_istore_n (lv' := [(3, .int (0 : Int32)), (2, .int s0), (1, .int x1), (0, .ref (am 0))]) hx hb dX7_nameHere_49 rfl hl (by decide) rfl (fun ls hl => ?_)
            obtain ⟨n_50, h⟩ := h
            exact cut_50 n_50 x1 s0 (0 : Int32) h _ _ hP hD hS _ (lv_sub hl [2, 1, 0, 3] rfl)
          refine lv_icmp_ne (tgt := 46) hx hb dX7_nameHere_39 (by decide) (fun c_8 => ?_) (fun c_8 => ?_)
          · have h := h.2 c_8
            refine lv_iconst (v := (0 : Int32)) hx hb dX7_nameHere_46 (by decide) ?_
            exact cut_47 x1 (0 : Int32) h _ _ hP hD hS _ (lv_sub hl [0, 1] rfl)
          · have h := h.1 c_8
            refine lv_iconst (v := (1 : Int32)) hx hb dX7_nameHere_42 (by decide) ?_
            refine lv_goto (tgt := 47) hx hb dX7_nameHere_43 (by decide) ?_
            exact cut_47 x1 (1 : Int32) h _ _ hP hD hS _ (lv_sub hl [0, 1] rfl)
  refine lv_istore_n (lv' := [(1, .int (0 : Int32)), (0, .ref (am 0))]) hx hb dX7_nameHere_1 rfl hl (by decide) rfl (fun ls hl => ?_)
  obtain ⟨n_2, h⟩ := h
  exact cut_2 n_2 (0 : Int32) h _ _ hP hD hS _ (lv_sub hl [0, 1] rfl)
def wbX7_step_84 (tp : Nat → Int32) (Q : (Nat → Int32) → Prop) (k8 : (Nat → Int32) → Prop) (k84 : (Nat → Int32) → Prop) (f : Nat → Int32) : Prop :=
  (wpX7_byteAt f tp (f 10) (fun r_6 => (wpX7_in (r_6.toInt64) (97 : Int64) (122 : Int64) (fun r_7 => ((r_7 = 0 → Q (upd f 12 (1 : Int32))) ∧ (¬ r_7 = 0 → k84 (upd f 10 ((f 10) + (1 : Int32)))))))))
def wpX7_step_84 (tp : Nat → Int32) (Q : (Nat → Int32) → Prop) (k8 : (Nat → Int32) → Prop) (n : Nat) : (Nat → Int32) → Prop :=
  Nat.rec (motive := fun _ => (Nat → Int32) → Prop) (fun _ => False) (fun _ k => wbX7_step_84 tp Q k8 k) n
def wpX7_step_201 (tp : Nat → Int32) (Q : (Nat → Int32) → Prop) (k8 : (Nat → Int32) → Prop) (k140 : (Nat → Int32) → Prop) (f : Nat → Int32) (s1 : Int32) : Prop :=
  k140 (upd (upd f 13 s1) 10 ((f 10) + (1 : Int32)))
def wbX7_step_140 (tp : Nat → Int32) (Q : (Nat → Int32) → Prop) (k8 : (Nat → Int32) → Prop) (k140 : (Nat → Int32) → Prop) (f : Nat → Int32) : Prop :=
  (wpX7_byteAt f tp (f 10) (fun r_11 => (wpX7_in (r_11.toInt64) (48 : Int64) (57 : Int64) (fun r_12 => ((r_12 = 0 → ((((f 10) - (f 11)) ≤ (2 : Int32) → Q (upd f 12 (2 : Int32))) ∧ (¬ ((f 10) - (f 11)) ≤ (2 : Int32) → (wpX7_fails (upd f 12 (2 : Int32)) (1 : Int32) (fun f_16 => Q f_16))))) ∧ (¬ r_12 = 0 → (((2 : Int32) ≤ ((f 10) - (f 11)) → wpX7_step_201 tp Q k8 k140 f (f 13)) ∧ (¬ (2 : Int32) ≤ ((f 10) - (f 11)) → (wpX7_byteAt f tp (f 10) (fun r_18 => wpX7_step_201 tp Q k8 k140 f ((((10 : Int32) * (f 13)) + r_18) - (48 : Int32))))))))))))
def wpX7_step_140 (tp : Nat → Int32) (Q : (Nat → Int32) → Prop) (k8 : (Nat → Int32) → Prop) (n : Nat) : (Nat → Int32) → Prop :=
  Nat.rec (motive := fun _ => (Nat → Int32) → Prop) (fun _ => False) (fun _ k => wbX7_step_140 tp Q k8 k) n
def wbX7_step_8 (tp : Nat → Int32) (Q : (Nat → Int32) → Prop) (k8 : (Nat → Int32) → Prop) (f : Nat → Int32) : Prop :=
  (wpX7_byteAt f tp (f 10) (fun r_1 => ((r_1 = (32 : Int32) → k8 (upd f 10 ((f 10) + (1 : Int32)))) ∧ (¬ r_1 = (32 : Int32) → (wpX7_byteAt (upd f 11 (f 10)) tp (f 10) (fun r_3 => ((r_3 = (-4 : Int32) → Q (upd (upd (upd f 11 (f 10)) 13 (0 : Int32)) 12 (0 : Int32))) ∧ (¬ r_3 = (-4 : Int32) → (wpX7_in (r_3.toInt64) (97 : Int64) (122 : Int64) (fun r_5 => ((r_5 = 0 → (wpX7_in (r_3.toInt64) (48 : Int64) (57 : Int64) (fun r_10 => ((r_10 = 0 → ((r_3 = (59 : Int32) → Q (upd (upd (upd (upd f 11 (f 10)) 13 (0 : Int32)) 12 (3 : Int32)) 10 ((f 10) + (1 : Int32)))) ∧ (¬ r_3 = (59 : Int32) → (wpX7_fails (upd (upd (upd (upd f 11 (f 10)) 13 (0 : Int32)) 12 (3 : Int32)) 10 ((f 10) + (1 : Int32))) (1 : Int32) (fun f_22 => Q f_22))))) ∧ (¬ r_10 = 0 → (∃ n : Nat, wpX7_step_140 tp Q k8 n (upd (upd f 11 (f 10)) 13 (0 : Int32)))))))) ∧ (¬ r_5 = 0 → (∃ n : Nat, wpX7_step_84 tp Q k8 n (upd (upd f 11 (f 10)) 13 (0 : Int32)))))))))))))))
def wpX7_step_8 (tp : Nat → Int32) (Q : (Nat → Int32) → Prop) (n : Nat) : (Nat → Int32) → Prop :=
  Nat.rec (motive := fun _ => (Nat → Int32) → Prop) (fun _ => False) (fun _ k => wbX7_step_8 tp Q  k) n
def wpX7_step (f : Nat → Int32) (tp : Nat → Int32) (Q : (Nat → Int32) → Prop) : Prop :=
  (((f 8) ≤ 0 → (∃ n : Nat, wpX7_step_8 tp Q  n f)) ∧ (¬ (f 8) ≤ 0 → Q f))
set_option maxHeartbeats 4000000 in
theorem metX7_step (l : Launch) (D : va_G) (kk : Nat → ClassId) (am : Nat → Nat) (sz : Nat) (f : Nat → Int32) (tp : Nat → Int32) (Q : (Nat → Int32) → Prop) (h : wpX7_step f tp Q) : Met l yX7_step (ws_ yX7_step cX7_step 2 none) { frames := 1, cells := 0, slots := 0, locals := 25 } (va_Pc ([.ref (am 0)] : List Value) (zPc D kk [zM am f, zA (kk 1) (am 3) 160 tp] sz)) (va_Qv (fun (u : (Nat → Int32)) => Q u) (zB D (va_A [zM am f, zA (kk 1) (am 3) 160 tp] sz) (fun u : (Nat → Int32) => [zM am u, zA (kk 1) (am 3) 160 tp])) (va_A [zM am f, zA (kk 1) (am 3) 160 tp] sz)) 0 0 (va_A [zM am f, zA (kk 1) (am 3) 160 tp] sz) := by
  refine zMet (Qc := fun A => va_Qv (fun (u : (Nat → Int32)) => Q u) (zB D A (fun u : (Nat → Int32) => [zM am u, zA (kk 1) (am 3) 160 tp])) A) (by decide) (Nat.le_of_ble_eq_true rfl) ?_
  intro p e s m below meth c A X hP hD hS ls hl
  obtain ⟨hx, hb, hr, hml, hown, hts, hlk, hnm, hK, hN, hA⟩ := X
  have hown : s.vm.findClass "LoseLeagueModel" = some m.cls := hown
  have hl : lv_has ls 2 [(0, .ref (am 0))] := hl
  unfold wpX7_step at h
  refine lv_aload_n hx hb dX7_step_0 rfl (lv_at hl 0 rfl) ?_
  refine va_get (D := D) (ci := 7) (v := .int (f 8)) (C := RX7) (T := TX7) (N := 29) hx hb hts in_X7 hown hK hP 0 rfl rfl 8 (Nat.le_of_ble_eq_true rfl) (hts _ q947) (fun _ h9 => h9) rfl dX7_step_1 ?_
  have cut_8 : ∀ (nl8 : Nat) (f : Nat → Int32), wpX7_step_8 tp Q  nl8 f → ∀ (H : Heap) (locs : List Loc), va_P D vwCl [zM am f, zA (kk 1) (am 3) 160 tp] H → va_D A [zM am f, zA (kk 1) (am 3) 160 tp] → va_S A s.heap H locs → ∀ ls : Array Slot, lv_has ls 2 [(0, .ref (am 0))] → W p l e { frames := 1, cells := 0, slots := 0, locals := 25 } s m ([.ref (am 0)] : List Value).toArray below meth c H locs 0 0 (MQ below (va_Qv (fun (u : (Nat → Int32)) => Q u) (zB D A (fun u : (Nat → Int32) => [zM am u, zA (kk 1) (am 3) 160 tp])) A) ([.ref (am 0)] : List Value).toArray s 0 0 A) (F0 m 8 ls []) := by
    intro nl8
    induction nl8 with
    | zero => intro f h; exact absurd h id
    | succ nl8 ih_8 =>
      intro f h H locs hP hD hS ls hl
      have h : wbX7_step_8 tp Q  (wpX7_step_8 tp Q  nl8) f := h
      unfold wbX7_step_8 at h
      refine lv_aload_n hx hb dX7_step_8 rfl (lv_at hl 0 rfl) ?_
      refine lv_aload_n hx hb dX7_step_9 rfl (lv_at hl 0 rfl) ?_
      refine va_get (D := D) (ci := 7) (v := .int (f 10)) (C := RX7) (T := TX7) (N := 29) hx hb hts in_X7 hown hK hP 0 rfl rfl 10 (Nat.le_of_ble_eq_true rfl) (hts _ q949) (fun _ h9 => h9) rfl dX7_step_10 ?_
      have hrc := va_recv hK hP (ci := 7) (q0 := 0) rfl rfl
      refine zc_i (wc := [zM am f, zA (kk 1) (am 3) 160 tp]) (wr := []) (w1 := (fun u : Unit => [zM am f, zA (kk 1) (am 3) 160 tp])) (rest := []) [0, 1] [] rfl rfl (by decide) (by decide) (by decide) hA hP hD hS (fun hP hD => va_runV (As := [.int (f 10)]) (rest := []) ⟨hx, hb, hml, hown, hts⟩ (metX7_byteAt l D kk am _ f tp (f 10) _ h) (cwV 1 hts (lw_V q1048 q1050 qs35 q71 q1051) rfl rfl rfl pdX7_byteAt ⟨(Nat.le_of_ble_eq_true rfl), (Nat.le_of_ble_eq_true rfl)⟩) (zp_V hK hN hrc hP hD) rfl rfl hl.1 rfl (lv_room (Nat.le_of_ble_eq_true rfl)) dX7_step_13 ⟨(Nat.le_of_ble_eq_true rfl), (Nat.le_of_ble_eq_true rfl)⟩) (fun r_1 u H locs h hP hD hS => ?_)
      try dsimp only at h
      have hP : va_P D vwCl [zM am f, zA (kk 1) (am 3) 160 tp] H := hP
      have hD : va_D A [zM am f, zA (kk 1) (am 3) 160 tp] := hD
      refine lv_bipush (v := (32 : Int32)) hx hb dX7_step_16 (by decide) ?_
      refine lv_icmp_ne (tgt := 34) hx hb dX7_step_18 (by decide) (fun c_2 => ?_) (fun c_2 => ?_)
      · have h := h.2 c_2
        refine lv_aload_n hx hb dX7_step_34 rfl (lv_at hl 0 rfl) ?_
        refine lv_aload_n hx hb dX7_step_35 rfl (lv_at hl 0 rfl) ?_
        refine va_get (D := D) (ci := 7) (v := .int (f 10)) (C := RX7) (T := TX7) (N := 29) hx hb hts in_X7 hown hK hP 0 rfl rfl 10 (Nat.le_of_ble_eq_true rfl) (hts _ q949) (fun _ h9 => h9) rfl dX7_step_36 ?_
        refine va_put (D := D) (ci := 7) (v := .int (f 10)) (C := RX7) (T := TX7) (N := 29) hx hb hts in_X7 tyX7 tyX7_ok nmX7 hown hK hP hD hS 0 rfl rfl 11 (Nat.le_of_ble_eq_true rfl) (hts _ q950) (fun _ h9 => h9) rfl (tyX7_ok 11 (Nat.le_of_ble_eq_true rfl)) rfl rfl (Nat.le_of_ble_eq_true rfl) dX7_step_39 (fun H locs hP hD hS => ?_)
        have hP : va_P D vwCl [zM am (upd f 11 (f 10)), zA (kk 1) (am 3) 160 tp] H := hP
        have hD : va_D A [zM am (upd f 11 (f 10)), zA (kk 1) (am 3) 160 tp] := hD
        refine lv_aload_n hx hb dX7_step_42 rfl (lv_at hl 0 rfl) ?_
        refine lv_aload_n hx hb dX7_step_43 rfl (lv_at hl 0 rfl) ?_
        refine va_get (D := D) (ci := 7) (v := .int (f 10)) (C := RX7) (T := TX7) (N := 29) hx hb hts in_X7 hown hK hP 0 rfl rfl 10 (Nat.le_of_ble_eq_true rfl) (hts _ q949) (fun _ h9 => h9) rfl dX7_step_44 ?_
        have hrc := va_recv hK hP (ci := 7) (q0 := 0) rfl rfl
        refine zc_i (wc := [zM am (upd f 11 (f 10)), zA (kk 1) (am 3) 160 tp]) (wr := []) (w1 := (fun u : Unit => [zM am (upd f 11 (f 10)), zA (kk 1) (am 3) 160 tp])) (rest := []) [0, 1] [] rfl rfl (by decide) (by decide) (by decide) hA hP hD hS (fun hP hD => va_runV (As := [.int (f 10)]) (rest := []) ⟨hx, hb, hml, hown, hts⟩ (metX7_byteAt l D kk am _ (upd f 11 (f 10)) tp (f 10) _ h) (cwV 1 hts (lw_V q1048 q1050 qs35 q71 q1051) rfl rfl rfl pdX7_byteAt ⟨(Nat.le_of_ble_eq_true rfl), (Nat.le_of_ble_eq_true rfl)⟩) (zp_V hK hN hrc hP hD) rfl rfl hl.1 rfl (lv_room (Nat.le_of_ble_eq_true rfl)) dX7_step_47 ⟨(Nat.le_of_ble_eq_true rfl), (Nat.le_of_ble_eq_true rfl)⟩) (fun r_3 u H locs h hP hD hS => ?_)
        try dsimp only at h
        have hP : va_P D vwCl [zM am (upd f 11 (f 10)), zA (kk 1) (am 3) 160 tp] H := hP
        have hD : va_D A [zM am (upd f 11 (f 10)), zA (kk 1) (am 3) 160 tp] := hD
        refine lv_istore_n (lv' := [(1, .int r_3), (0, .ref (am 0))]) hx hb dX7_step_50 rfl hl (by decide) rfl (fun ls hl => ?_)
        refine lv_aload_n hx hb dX7_step_51 rfl (lv_at hl 1 rfl) ?_
        refine lv_iconst (v := (0 : Int32)) hx hb dX7_step_52 (by decide) ?_
        refine va_put (D := D) (ci := 7) (v := .int (0 : Int32)) (C := RX7) (T := TX7) (N := 29) hx hb hts in_X7 tyX7 tyX7_ok nmX7 hown hK hP hD hS 0 rfl rfl 13 (Nat.le_of_ble_eq_true rfl) (hts _ q952) (fun _ h9 => h9) rfl (tyX7_ok 13 (Nat.le_of_ble_eq_true rfl)) rfl rfl (Nat.le_of_ble_eq_true rfl) dX7_step_53 (fun H locs hP hD hS => ?_)
        have hP : va_P D vwCl [zM am (upd (upd f 11 (f 10)) 13 (0 : Int32)), zA (kk 1) (am 3) 160 tp] H := hP
        have hD : va_D A [zM am (upd (upd f 11 (f 10)) 13 (0 : Int32)), zA (kk 1) (am 3) 160 tp] := hD
        refine lv_iload_n hx hb dX7_step_56 rfl (lv_at hl 0 rfl) ?_
        refine lv_bipush (v := (-4 : Int32)) hx hb dX7_step_57 (by decide) ?_
        refine lv_icmp_ne (tgt := 70) hx hb dX7_step_59 (by decide) (fun c_4 => ?_) (fun c_4 => ?_)
        · have h := h.2 c_4
          refine lv_iload_n hx hb dX7_step_70 rfl (lv_at hl 0 rfl) ?_
          refine lv_i2l hx hb dX7_step_71 rfl ?_
          refine lv_ldc2 (v := (97 : Int64)) hx hb hown (hts _ q1052) dX7_step_72 ?_
          refine lv_ldc2 (v := (122 : Int64)) hx hb hown (hts _ q1053) dX7_step_75 ?_
          refine zc_i (wc := []) (wr := [zM am (upd (upd f 11 (f 10)) 13 (0 : Int32)), zA (kk 1) (am 3) 160 tp]) (w1 := (fun u : Unit => [])) (rest := []) [] [0, 1] rfl rfl (by decide) (by decide) (by decide) hA hP hD hS (fun hP hD => va_runS (As := [.long (r_3.toInt64), .long (97 : Int64), .long (122 : Int64)]) (rest := []) ⟨hx, hb, hml, hown, hts⟩ (metX7_in l D kk _ (r_3.toInt64) (97 : Int64) (122 : Int64) _ h) (va_cwS 3 hts (lw_S q1033 q1034 q71 q1035) rfl rfl rfl pdX7_in.2 ⟨(Nat.le_of_ble_eq_true rfl), (Nat.le_of_ble_eq_true rfl)⟩) (zp_S hK hN hP hD) rfl rfl hl.1 rfl (lv_room (Nat.le_of_ble_eq_true rfl)) dX7_step_78 ⟨(Nat.le_of_ble_eq_true rfl), (Nat.le_of_ble_eq_true rfl)⟩) (fun r_5 u H locs h hP hD hS => ?_)
          try dsimp only at h
          have hP : va_P D vwCl [zM am (upd (upd f 11 (f 10)) 13 (0 : Int32)), zA (kk 1) (am 3) 160 tp] H := hP
          have hD : va_D A [zM am (upd (upd f 11 (f 10)) 13 (0 : Int32)), zA (kk 1) (am 3) 160 tp] := hD
          have cut_84 : ∀ (nl84 : Nat) (f : Nat → Int32), wpX7_step_84 tp Q (wpX7_step_8 tp Q  nl8) nl84 f → ∀ (H : Heap) (locs : List Loc), va_P D vwCl [zM am f, zA (kk 1) (am 3) 160 tp] H → va_D A [zM am f, zA (kk 1) (am 3) 160 tp] → va_S A s.heap H locs → ∀ ls : Array Slot, lv_has ls 2 [(0, .ref (am 0))] → W p l e { frames := 1, cells := 0, slots := 0, locals := 25 } s m ([.ref (am 0)] : List Value).toArray below meth c H locs 0 0 (MQ below (va_Qv (fun (u : (Nat → Int32)) => Q u) (zB D A (fun u : (Nat → Int32) => [zM am u, zA (kk 1) (am 3) 160 tp])) A) ([.ref (am 0)] : List Value).toArray s 0 0 A) (F0 m 84 ls []) := by
            intro nl84
            induction nl84 with
            | zero => intro f h; exact absurd h id
            | succ nl84 ih_84 =>
              intro f h H locs hP hD hS ls hl
              have h : wbX7_step_84 tp Q (wpX7_step_8 tp Q  nl8) (wpX7_step_84 tp Q (wpX7_step_8 tp Q  nl8) nl84) f := h
              unfold wbX7_step_84 at h
              refine lv_aload_n hx hb dX7_step_84 rfl (lv_at hl 0 rfl) ?_
              refine lv_aload_n hx hb dX7_step_85 rfl (lv_at hl 0 rfl) ?_
              refine va_get (D := D) (ci := 7) (v := .int (f 10)) (C := RX7) (T := TX7) (N := 29) hx hb hts in_X7 hown hK hP 0 rfl rfl 10 (Nat.le_of_ble_eq_true rfl) (hts _ q949) (fun _ h9 => h9) rfl dX7_step_86 ?_
              have hrc := va_recv hK hP (ci := 7) (q0 := 0) rfl rfl
              refine zc_i (wc := [zM am f, zA (kk 1) (am 3) 160 tp]) (wr := []) (w1 := (fun u : Unit => [zM am f, zA (kk 1) (am 3) 160 tp])) (rest := []) [0, 1] [] rfl rfl (by decide) (by decide) (by decide) hA hP hD hS (fun hP hD => va_runV (As := [.int (f 10)]) (rest := []) ⟨hx, hb, hml, hown, hts⟩ (metX7_byteAt l D kk am _ f tp (f 10) _ h) (cwV 1 hts (lw_V q1048 q1050 qs35 q71 q1051) rfl rfl rfl pdX7_byteAt ⟨(Nat.le_of_ble_eq_true rfl), (Nat.le_of_ble_eq_true rfl)⟩) (zp_V hK hN hrc hP hD) rfl rfl hl.1 rfl (lv_room (Nat.le_of_ble_eq_true rfl)) dX7_step_89 ⟨(Nat.le_of_ble_eq_true rfl), (Nat.le_of_ble_eq_true rfl)⟩) (fun r_6 u H locs h hP hD hS => ?_)
              try dsimp only at h
              have hP : va_P D vwCl [zM am f, zA (kk 1) (am 3) 160 tp] H := hP
              have hD : va_D A [zM am f, zA (kk 1) (am 3) 160 tp] := hD
              refine lv_i2l hx hb dX7_step_92 rfl ?_
              refine lv_ldc2 (v := (97 : Int64)) hx hb hown (hts _ q1052) dX7_step_93 ?_
              refine lv_ldc2 (v := (122 : Int64)) hx hb hown (hts _ q1053) dX7_step_96 ?_
              refine zc_i (wc := []) (wr := [zM am f, zA (kk 1) (am 3) 160 tp]) (w1 := (fun u : Unit => [])) (rest := []) [] [0, 1] rfl rfl (by decide) (by decide) (by decide) hA hP hD hS (fun hP hD => va_runS (As := [.long (r_6.toInt64), .long (97 : Int64), .long (122 : Int64)]) (rest := []) ⟨hx, hb, hml, hown, hts⟩ (metX7_in l D kk _ (r_6.toInt64) (97 : Int64) (122 : Int64) _ h) (va_cwS 3 hts (lw_S q1033 q1034 q71 q1035) rfl rfl rfl pdX7_in.2 ⟨(Nat.le_of_ble_eq_true rfl), (Nat.le_of_ble_eq_true rfl)⟩) (zp_S hK hN hP hD) rfl rfl hl.1 rfl (lv_room (Nat.le_of_ble_eq_true rfl)) dX7_step_99 ⟨(Nat.le_of_ble_eq_true rfl), (Nat.le_of_ble_eq_true rfl)⟩) (fun r_7 u H locs h hP hD hS => ?_)
              try dsimp only at h
              have hP : va_P D vwCl [zM am f, zA (kk 1) (am 3) 160 tp] H := hP
              have hD : va_D A [zM am f, zA (kk 1) (am 3) 160 tp] := hD
              refine lv_if_eq (tgt := 118) hx hb dX7_step_102 (by decide) (fun c_8 => ?_) (fun c_8 => ?_)
              · have h := h.1 c_8
                refine lv_aload_n hx hb dX7_step_118 rfl (lv_at hl 0 rfl) ?_
                refine lv_iconst (v := (1 : Int32)) hx hb dX7_step_119 (by decide) ?_
                refine va_put (D := D) (ci := 7) (v := .int (1 : Int32)) (C := RX7) (T := TX7) (N := 29) hx hb hts in_X7 tyX7 tyX7_ok nmX7 hown hK hP hD hS 0 rfl rfl 12 (Nat.le_of_ble_eq_true rfl) (hts _ q951) (fun _ h9 => h9) rfl (tyX7_ok 12 (Nat.le_of_ble_eq_true rfl)) rfl rfl (Nat.le_of_ble_eq_true rfl) dX7_step_120 (fun H locs hP hD hS => ?_)
                have hP : va_P D vwCl [zM am (upd f 12 (1 : Int32)), zA (kk 1) (am 3) 160 tp] H := hP
                have hD : va_D A [zM am (upd f 12 (1 : Int32)), zA (kk 1) (am 3) 160 tp] := hD
                refine lv_goto (tgt := 269) hx hb dX7_step_123 (by decide) ?_
                exact zr_v hx hb hr hlk hP hD hS ((upd f 12 (1 : Int32))) [0, 1] rfl (by decide) dX7_step_269 h
              · have h := h.2 c_8
                refine lv_aload_n hx hb dX7_step_105 rfl (lv_at hl 0 rfl) ?_
                refine lv_dup hx hb dX7_step_106 rfl ?_
                refine va_get (D := D) (ci := 7) (v := .int (f 10)) (C := RX7) (T := TX7) (N := 29) hx hb hts in_X7 hown hK hP 0 rfl rfl 10 (Nat.le_of_ble_eq_true rfl) (hts _ q949) (fun _ h9 => h9) rfl dX7_step_107 ?_
                refine lv_iconst (v := (1 : Int32)) hx hb dX7_step_110 (by decide) ?_
                refine lv_iadd hx hb dX7_step_111 ?_
                refine va_put (D := D) (ci := 7) (v := .int ((f 10) + (1 : Int32))) (C := RX7) (T := TX7) (N := 29) hx hb hts in_X7 tyX7 tyX7_ok nmX7 hown hK hP hD hS 0 rfl rfl 10 (Nat.le_of_ble_eq_true rfl) (hts _ q949) (fun _ h9 => h9) rfl (tyX7_ok 10 (Nat.le_of_ble_eq_true rfl)) rfl rfl (Nat.le_of_ble_eq_true rfl) dX7_step_112 (fun H locs hP hD hS => ?_)
                have hP : va_P D vwCl [zM am (upd f 10 ((f 10) + (1 : Int32))), zA (kk 1) (am 3) 160 tp] H := hP
                have hD : va_D A [zM am (upd f 10 ((f 10) + (1 : Int32))), zA (kk 1) (am 3) 160 tp] := hD
                refine lv_goto (tgt := 84) hx hb dX7_step_115 (by decide) ?_
                exact ih_84 (upd f 10 ((f 10) + (1 : Int32))) h _ _ hP hD hS _ (lv_sub hl [0] rfl)
          refine lv_if_eq (tgt := 126) hx hb dX7_step_81 (by decide) (fun c_9 => ?_) (fun c_9 => ?_)
          · have h := h.1 c_9
            refine lv_iload_n hx hb dX7_step_126 rfl (lv_at hl 0 rfl) ?_
            refine lv_i2l hx hb dX7_step_127 rfl ?_
            refine lv_ldc2 (v := (48 : Int64)) hx hb hown (hts _ q1054) dX7_step_128 ?_
            refine lv_ldc2 (v := (57 : Int64)) hx hb hown (hts _ q1055) dX7_step_131 ?_
            refine zc_i (wc := []) (wr := [zM am (upd (upd f 11 (f 10)) 13 (0 : Int32)), zA (kk 1) (am 3) 160 tp]) (w1 := (fun u : Unit => [])) (rest := []) [] [0, 1] rfl rfl (by decide) (by decide) (by decide) hA hP hD hS (fun hP hD => va_runS (As := [.long (r_3.toInt64), .long (48 : Int64), .long (57 : Int64)]) (rest := []) ⟨hx, hb, hml, hown, hts⟩ (metX7_in l D kk _ (r_3.toInt64) (48 : Int64) (57 : Int64) _ h) (va_cwS 3 hts (lw_S q1033 q1034 q71 q1035) rfl rfl rfl pdX7_in.2 ⟨(Nat.le_of_ble_eq_true rfl), (Nat.le_of_ble_eq_true rfl)⟩) (zp_S hK hN hP hD) rfl rfl hl.1 rfl (lv_room (Nat.le_of_ble_eq_true rfl)) dX7_step_134 ⟨(Nat.le_of_ble_eq_true rfl), (Nat.le_of_ble_eq_true rfl)⟩) (fun r_10 u H locs h hP hD hS => ?_)
            try dsimp only at h
            have hP : va_P D vwCl [zM am (upd (upd f 11 (f 10)) 13 (0 : Int32)), zA (kk 1) (am 3) 160 tp] H := hP
            have hD : va_D A [zM am (upd (upd f 11 (f 10)) 13 (0 : Int32)), zA (kk 1) (am 3) 160 tp] := hD
            have cut_140 : ∀ (nl140 : Nat) (f : Nat → Int32), wpX7_step_140 tp Q (wpX7_step_8 tp Q  nl8) nl140 f → ∀ (H : Heap) (locs : List Loc), va_P D vwCl [zM am f, zA (kk 1) (am 3) 160 tp] H → va_D A [zM am f, zA (kk 1) (am 3) 160 tp] → va_S A s.heap H locs → ∀ ls : Array Slot, lv_has ls 2 [(0, .ref (am 0))] → W p l e { frames := 1, cells := 0, slots := 0, locals := 25 } s m ([.ref (am 0)] : List Value).toArray below meth c H locs 0 0 (MQ below (va_Qv (fun (u : (Nat → Int32)) => Q u) (zB D A (fun u : (Nat → Int32) => [zM am u, zA (kk 1) (am 3) 160 tp])) A) ([.ref (am 0)] : List Value).toArray s 0 0 A) (F0 m 140 ls []) := by
              intro nl140
              induction nl140 with
              | zero => intro f h; exact absurd h id
              | succ nl140 ih_140 =>
                intro f h H locs hP hD hS ls hl
                have h : wbX7_step_140 tp Q (wpX7_step_8 tp Q  nl8) (wpX7_step_140 tp Q (wpX7_step_8 tp Q  nl8) nl140) f := h
                unfold wbX7_step_140 at h
                refine lv_aload_n hx hb dX7_step_140 rfl (lv_at hl 0 rfl) ?_
                refine lv_aload_n hx hb dX7_step_141 rfl (lv_at hl 0 rfl) ?_
                refine va_get (D := D) (ci := 7) (v := .int (f 10)) (C := RX7) (T := TX7) (N := 29) hx hb hts in_X7 hown hK hP 0 rfl rfl 10 (Nat.le_of_ble_eq_true rfl) (hts _ q949) (fun _ h9 => h9) rfl dX7_step_142 ?_
                have hrc := va_recv hK hP (ci := 7) (q0 := 0) rfl rfl
                refine zc_i (wc := [zM am f, zA (kk 1) (am 3) 160 tp]) (wr := []) (w1 := (fun u : Unit => [zM am f, zA (kk 1) (am 3) 160 tp])) (rest := []) [0, 1] [] rfl rfl (by decide) (by decide) (by decide) hA hP hD hS (fun hP hD => va_runV (As := [.int (f 10)]) (rest := []) ⟨hx, hb, hml, hown, hts⟩ (metX7_byteAt l D kk am _ f tp (f 10) _ h) (cwV 1 hts (lw_V q1048 q1050 qs35 q71 q1051) rfl rfl rfl pdX7_byteAt ⟨(Nat.le_of_ble_eq_true rfl), (Nat.le_of_ble_eq_true rfl)⟩) (zp_V hK hN hrc hP hD) rfl rfl hl.1 rfl (lv_room (Nat.le_of_ble_eq_true rfl)) dX7_step_145 ⟨(Nat.le_of_ble_eq_true rfl), (Nat.le_of_ble_eq_true rfl)⟩) (fun r_11 u H locs h hP hD hS => ?_)
                try dsimp only at h
                have hP : va_P D vwCl [zM am f, zA (kk 1) (am 3) 160 tp] H := hP
                have hD : va_D A [zM am f, zA (kk 1) (am 3) 160 tp] := hD
                refine lv_i2l hx hb dX7_step_148 rfl ?_
                refine lv_ldc2 (v := (48 : Int64)) hx hb hown (hts _ q1054) dX7_step_149 ?_
                refine lv_ldc2 (v := (57 : Int64)) hx hb hown (hts _ q1055) dX7_step_152 ?_
                refine zc_i (wc := []) (wr := [zM am f, zA (kk 1) (am 3) 160 tp]) (w1 := (fun u : Unit => [])) (rest := []) [] [0, 1] rfl rfl (by decide) (by decide) (by decide) hA hP hD hS (fun hP hD => va_runS (As := [.long (r_11.toInt64), .long (48 : Int64), .long (57 : Int64)]) (rest := []) ⟨hx, hb, hml, hown, hts⟩ (metX7_in l D kk _ (r_11.toInt64) (48 : Int64) (57 : Int64) _ h) (va_cwS 3 hts (lw_S q1033 q1034 q71 q1035) rfl rfl rfl pdX7_in.2 ⟨(Nat.le_of_ble_eq_true rfl), (Nat.le_of_ble_eq_true rfl)⟩) (zp_S hK hN hP hD) rfl rfl hl.1 rfl (lv_room (Nat.le_of_ble_eq_true rfl)) dX7_step_155 ⟨(Nat.le_of_ble_eq_true rfl), (Nat.le_of_ble_eq_true rfl)⟩) (fun r_12 u H locs h hP hD hS => ?_)
                try dsimp only at h
                have hP : va_P D vwCl [zM am f, zA (kk 1) (am 3) 160 tp] H := hP
                have hD : va_D A [zM am f, zA (kk 1) (am 3) 160 tp] := hD
                refine lv_if_eq (tgt := 217) hx hb dX7_step_158 (by decide) (fun c_13 => ?_) (fun c_13 => ?_)
                · have h := h.1 c_13
                  refine lv_aload_n hx hb dX7_step_217 rfl (lv_at hl 0 rfl) ?_
                  refine lv_iconst (v := (2 : Int32)) hx hb dX7_step_218 (by decide) ?_
                  refine va_put (D := D) (ci := 7) (v := .int (2 : Int32)) (C := RX7) (T := TX7) (N := 29) hx hb hts in_X7 tyX7 tyX7_ok nmX7 hown hK hP hD hS 0 rfl rfl 12 (Nat.le_of_ble_eq_true rfl) (hts _ q951) (fun _ h9 => h9) rfl (tyX7_ok 12 (Nat.le_of_ble_eq_true rfl)) rfl rfl (Nat.le_of_ble_eq_true rfl) dX7_step_219 (fun H locs hP hD hS => ?_)
                  have hP : va_P D vwCl [zM am (upd f 12 (2 : Int32)), zA (kk 1) (am 3) 160 tp] H := hP
                  have hD : va_D A [zM am (upd f 12 (2 : Int32)), zA (kk 1) (am 3) 160 tp] := hD
                  refine lv_aload_n hx hb dX7_step_222 rfl (lv_at hl 0 rfl) ?_
                  refine va_get (D := D) (ci := 7) (v := .int (f 10)) (C := RX7) (T := TX7) (N := 29) hx hb hts in_X7 hown hK hP 0 rfl rfl 10 (Nat.le_of_ble_eq_true rfl) (hts _ q949) (fun _ h9 => h9) rfl dX7_step_223 ?_
                  refine lv_aload_n hx hb dX7_step_226 rfl (lv_at hl 0 rfl) ?_
                  refine va_get (D := D) (ci := 7) (v := .int (f 11)) (C := RX7) (T := TX7) (N := 29) hx hb hts in_X7 hown hK hP 0 rfl rfl 11 (Nat.le_of_ble_eq_true rfl) (hts _ q950) (fun _ h9 => h9) rfl dX7_step_227 ?_
                  refine lv_isub hx hb dX7_step_230 ?_
                  refine lv_iconst (v := (2 : Int32)) hx hb dX7_step_231 (by decide) ?_
                  refine lv_icmp_le (tgt := 269) hx hb dX7_step_232 (by decide) (fun c_14 => ?_) (fun c_14 => ?_)
                  · have h := h.1 c_14
                    exact zr_v hx hb hr hlk hP hD hS ((upd f 12 (2 : Int32))) [0, 1] rfl (by decide) dX7_step_269 h
                  · have h := h.2 c_14
                    refine lv_aload_n hx hb dX7_step_235 rfl (lv_at hl 0 rfl) ?_
                    refine lv_iconst (v := (1 : Int32)) hx hb dX7_step_236 (by decide) ?_
                    have hrc := va_recv hK hP (ci := 7) (q0 := 0) rfl rfl
                    refine zc_v (wc := [zM am (upd f 12 (2 : Int32))]) (wr := [zA (kk 1) (am 3) 160 tp]) (w1 := (fun u : (Nat → Int32) => [zM am u])) (rest := []) [0] [1] rfl rfl (by decide) (by decide) (by decide) hA hP hD hS (fun hP hD => va_runV (As := [.int (1 : Int32)]) (rest := []) ⟨hx, hb, hml, hown, hts⟩ (metX7_fails l D kk am _ (upd f 12 (2 : Int32)) (1 : Int32) _ h) (cwV 1 hts (lw_V q1056 q1058 qs36 q71 q1059) rfl rfl rfl pdX7_fails ⟨(Nat.le_of_ble_eq_true rfl), (Nat.le_of_ble_eq_true rfl)⟩) (zp_V hK hN hrc hP hD) rfl rfl hl.1 rfl (lv_room (Nat.le_of_ble_eq_true rfl)) dX7_step_237 ⟨(Nat.le_of_ble_eq_true rfl), (Nat.le_of_ble_eq_true rfl)⟩) (fun u H locs h hP hD hS => ?_)
                    obtain ⟨f_16, rfl⟩ : ∃ z, z = u := ⟨_, rfl⟩
                    try dsimp only at h
                    have hP : va_P D vwCl [zA (kk 1) (am 3) 160 tp, zM am f_16] H := hP
                    have hD : va_D A [zA (kk 1) (am 3) 160 tp, zM am f_16] := hD
                    refine lv_goto (tgt := 269) hx hb dX7_step_240 (by decide) ?_
                    exact zr_v hx hb hr hlk hP hD hS (f_16) [1, 0] rfl (by decide) dX7_step_269 h
                · have h := h.2 c_13
                  refine lv_aload_n hx hb dX7_step_161 rfl (lv_at hl 0 rfl) ?_
                  refine lv_aload_n hx hb dX7_step_162 rfl (lv_at hl 0 rfl) ?_
                  refine va_get (D := D) (ci := 7) (v := .int (f 10)) (C := RX7) (T := TX7) (N := 29) hx hb hts in_X7 hown hK hP 0 rfl rfl 10 (Nat.le_of_ble_eq_true rfl) (hts _ q949) (fun _ h9 => h9) rfl dX7_step_163 ?_
                  refine lv_aload_n hx hb dX7_step_166 rfl (lv_at hl 0 rfl) ?_
                  refine va_get (D := D) (ci := 7) (v := .int (f 11)) (C := RX7) (T := TX7) (N := 29) hx hb hts in_X7 hown hK hP 0 rfl rfl 11 (Nat.le_of_ble_eq_true rfl) (hts _ q950) (fun _ h9 => h9) rfl dX7_step_167 ?_
                  refine lv_isub hx hb dX7_step_170 ?_
                  refine lv_iconst (v := (2 : Int32)) hx hb dX7_step_171 (by decide) ?_
                  have cut_201 : ∀ (f : Nat → Int32) (s1 : Int32), wpX7_step_201 tp Q (wpX7_step_8 tp Q  nl8) (wpX7_step_140 tp Q (wpX7_step_8 tp Q  nl8) nl140) f s1 → ∀ (H : Heap) (locs : List Loc), va_P D vwCl [zM am f, zA (kk 1) (am 3) 160 tp] H → va_D A [zM am f, zA (kk 1) (am 3) 160 tp] → va_S A s.heap H locs → ∀ ls : Array Slot, lv_has ls 2 [(0, .ref (am 0))] → W p l e { frames := 1, cells := 0, slots := 0, locals := 25 } s m ([.ref (am 0)] : List Value).toArray below meth c H locs 0 0 (MQ below (va_Qv (fun (u : (Nat → Int32)) => Q u) (zB D A (fun u : (Nat → Int32) => [zM am u, zA (kk 1) (am 3) 160 tp])) A) ([.ref (am 0)] : List Value).toArray s 0 0 A) (F0 m 201 ls [.int s1, .ref (am 0)]) := by
                    intro f s1 h H locs hP hD hS ls hl
                    unfold wpX7_step_201 at h
                    refine va_put (D := D) (ci := 7) (v := .int s1) (C := RX7) (T := TX7) (N := 29) hx hb hts in_X7 tyX7 tyX7_ok nmX7 hown hK hP hD hS 0 rfl rfl 13 (Nat.le_of_ble_eq_true rfl) (hts _ q952) (fun _ h9 => h9) rfl (tyX7_ok 13 (Nat.le_of_ble_eq_true rfl)) rfl rfl (Nat.le_of_ble_eq_true rfl) dX7_step_201 (fun H locs hP hD hS => ?_)
                    have hP : va_P D vwCl [zM am (upd f 13 s1), zA (kk 1) (am 3) 160 tp] H := hP
                    have hD : va_D A [zM am (upd f 13 s1), zA (kk 1) (am 3) 160 tp] := hD
                    refine lv_aload_n hx hb dX7_step_204 rfl (lv_at hl 0 rfl) ?_
                    refine lv_dup hx hb dX7_step_205 rfl ?_
                    refine va_get (D := D) (ci := 7) (v := .int (f 10)) (C := RX7) (T := TX7) (N := 29) hx hb hts in_X7 hown hK hP 0 rfl rfl 10 (Nat.le_of_ble_eq_true rfl) (hts _ q949) (fun _ h9 => h9) rfl dX7_step_206 ?_
                    refine lv_iconst (v := (1 : Int32)) hx hb dX7_step_209 (by decide) ?_
                    refine lv_iadd hx hb dX7_step_210 ?_
                    refine va_put (D := D) (ci := 7) (v := .int ((f 10) + (1 : Int32))) (C := RX7) (T := TX7) (N := 29) hx hb hts in_X7 tyX7 tyX7_ok nmX7 hown hK hP hD hS 0 rfl rfl 10 (Nat.le_of_ble_eq_true rfl) (hts _ q949) (fun _ h9 => h9) rfl (tyX7_ok 10 (Nat.le_of_ble_eq_true rfl)) rfl rfl (Nat.le_of_ble_eq_true rfl) dX7_step_211 (fun H locs hP hD hS => ?_)
                    have hP : va_P D vwCl [zM am (upd (upd f 13 s1) 10 ((f 10) + (1 : Int32))), zA (kk 1) (am 3) 160 tp] H := hP
                    have hD : va_D A [zM am (upd (upd f 13 s1) 10 ((f 10) + (1 : Int32))), zA (kk 1) (am 3) 160 tp] := hD
                    refine lv_goto (tgt := 140) hx hb dX7_step_214 (by decide) ?_
                    exact ih_140 (upd (upd f 13 s1) 10 ((f 10) + (1 : Int32))) h _ _ hP hD hS _ (lv_sub hl [0] rfl)
                  refine lv_icmp_ge (tgt := 197) hx hb dX7_step_172 (by decide) (fun c_17 => ?_) (fun c_17 => ?_)
                  · have h := h.1 c_17
                    refine lv_aload_n hx hb dX7_step_197 rfl (lv_at hl 0 rfl) ?_
                    refine va_get (D := D) (ci := 7) (v := .int (f 13)) (C := RX7) (T := TX7) (N := 29) hx hb hts in_X7 hown hK hP 0 rfl rfl 13 (Nat.le_of_ble_eq_true rfl) (hts _ q952) (fun _ h9 => h9) rfl dX7_step_198 ?_
                    exact cut_201 f (f 13) h _ _ hP hD hS _ (lv_sub hl [0] rfl)
                  · have h := h.2 c_17
                    refine lv_bipush (v := (10 : Int32)) hx hb dX7_step_175 (by decide) ?_
                    refine lv_aload_n hx hb dX7_step_177 rfl (lv_at hl 0 rfl) ?_
                    refine va_get (D := D) (ci := 7) (v := .int (f 13)) (C := RX7) (T := TX7) (N := 29) hx hb hts in_X7 hown hK hP 0 rfl rfl 13 (Nat.le_of_ble_eq_true rfl) (hts _ q952) (fun _ h9 => h9) rfl dX7_step_178 ?_
                    refine lv_imul hx hb dX7_step_181 ?_
                    refine lv_aload_n hx hb dX7_step_182 rfl (lv_at hl 0 rfl) ?_
                    refine lv_aload_n hx hb dX7_step_183 rfl (lv_at hl 0 rfl) ?_
                    refine va_get (D := D) (ci := 7) (v := .int (f 10)) (C := RX7) (T := TX7) (N := 29) hx hb hts in_X7 hown hK hP 0 rfl rfl 10 (Nat.le_of_ble_eq_true rfl) (hts _ q949) (fun _ h9 => h9) rfl dX7_step_184 ?_
                    have hrc := va_recv hK hP (ci := 7) (q0 := 0) rfl rfl
                    refine zc_i (wc := [zM am f, zA (kk 1) (am 3) 160 tp]) (wr := []) (w1 := (fun u : Unit => [zM am f, zA (kk 1) (am 3) 160 tp])) (rest := [.int ((10 : Int32) * (f 13)), .ref (am 0)]) [0, 1] [] rfl rfl (by decide) (by decide) (by decide) hA hP hD hS (fun hP hD => va_runV (As := [.int (f 10)]) (rest := [.int ((10 : Int32) * (f 13)), .ref (am 0)]) ⟨hx, hb, hml, hown, hts⟩ (metX7_byteAt l D kk am _ f tp (f 10) _ h) (cwV 1 hts (lw_V q1048 q1050 qs35 q71 q1051) rfl rfl rfl pdX7_byteAt ⟨(Nat.le_of_ble_eq_true rfl), (Nat.le_of_ble_eq_true rfl)⟩) (zp_V hK hN hrc hP hD) rfl rfl hl.1 rfl (lv_room (Nat.le_of_ble_eq_true rfl)) dX7_step_187 ⟨(Nat.le_of_ble_eq_true rfl), (Nat.le_of_ble_eq_true rfl)⟩) (fun r_18 u H locs h hP hD hS => ?_)
                    try dsimp only at h
                    have hP : va_P D vwCl [zM am f, zA (kk 1) (am 3) 160 tp] H := hP
                    have hD : va_D A [zM am f, zA (kk 1) (am 3) 160 tp] := hD
                    refine lv_iadd hx hb dX7_step_190 ?_
                    refine lv_bipush (v := (48 : Int32)) hx hb dX7_step_191 (by decide) ?_
                    refine lv_isub hx hb dX7_step_193 ?_
                    refine lv_goto (tgt := 201) hx hb dX7_step_194 (by decide) ?_
                    exact cut_201 f ((((10 : Int32) * (f 13)) + r_18) - (48 : Int32)) h _ _ hP hD hS _ (lv_sub hl [0] rfl)
            refine lv_if_eq (tgt := 243) hx hb dX7_step_137 (by decide) (fun c_19 => ?_) (fun c_19 => ?_)
            · have h := h.1 c_19
              refine lv_aload_n hx hb dX7_step_243 rfl (lv_at hl 1 rfl) ?_
              refine lv_iconst (v := (3 : Int32)) hx hb dX7_step_244 (by decide) ?_
              refine va_put (D := D) (ci := 7) (v := .int (3 : Int32)) (C := RX7) (T := TX7) (N := 29) hx hb hts in_X7 tyX7 tyX7_ok nmX7 hown hK hP hD hS 0 rfl rfl 12 (Nat.le_of_ble_eq_true rfl) (hts _ q951) (fun _ h9 => h9) rfl (tyX7_ok 12 (Nat.le_of_ble_eq_true rfl)) rfl rfl (Nat.le_of_ble_eq_true rfl) dX7_step_245 (fun H locs hP hD hS => ?_)
              have hP : va_P D vwCl [zM am (upd (upd (upd f 11 (f 10)) 13 (0 : Int32)) 12 (3 : Int32)), zA (kk 1) (am 3) 160 tp] H := hP
              have hD : va_D A [zM am (upd (upd (upd f 11 (f 10)) 13 (0 : Int32)) 12 (3 : Int32)), zA (kk 1) (am 3) 160 tp] := hD
              refine lv_aload_n hx hb dX7_step_248 rfl (lv_at hl 1 rfl) ?_
              refine lv_dup hx hb dX7_step_249 rfl ?_
              refine va_get (D := D) (ci := 7) (v := .int (f 10)) (C := RX7) (T := TX7) (N := 29) hx hb hts in_X7 hown hK hP 0 rfl rfl 10 (Nat.le_of_ble_eq_true rfl) (hts _ q949) (fun _ h9 => h9) rfl dX7_step_250 ?_
              refine lv_iconst (v := (1 : Int32)) hx hb dX7_step_253 (by decide) ?_
              refine lv_iadd hx hb dX7_step_254 ?_
              refine va_put (D := D) (ci := 7) (v := .int ((f 10) + (1 : Int32))) (C := RX7) (T := TX7) (N := 29) hx hb hts in_X7 tyX7 tyX7_ok nmX7 hown hK hP hD hS 0 rfl rfl 10 (Nat.le_of_ble_eq_true rfl) (hts _ q949) (fun _ h9 => h9) rfl (tyX7_ok 10 (Nat.le_of_ble_eq_true rfl)) rfl rfl (Nat.le_of_ble_eq_true rfl) dX7_step_255 (fun H locs hP hD hS => ?_)
              have hP : va_P D vwCl [zM am (upd (upd (upd (upd f 11 (f 10)) 13 (0 : Int32)) 12 (3 : Int32)) 10 ((f 10) + (1 : Int32))), zA (kk 1) (am 3) 160 tp] H := hP
              have hD : va_D A [zM am (upd (upd (upd (upd f 11 (f 10)) 13 (0 : Int32)) 12 (3 : Int32)) 10 ((f 10) + (1 : Int32))), zA (kk 1) (am 3) 160 tp] := hD
              refine lv_iload_n hx hb dX7_step_258 rfl (lv_at hl 0 rfl) ?_
              refine lv_bipush (v := (59 : Int32)) hx hb dX7_step_259 (by decide) ?_
              refine lv_icmp_eq (tgt := 269) hx hb dX7_step_261 (by decide) (fun c_20 => ?_) (fun c_20 => ?_)
              · have h := h.1 c_20
                exact zr_v hx hb hr hlk hP hD hS ((upd (upd (upd (upd f 11 (f 10)) 13 (0 : Int32)) 12 (3 : Int32)) 10 ((f 10) + (1 : Int32)))) [0, 1] rfl (by decide) dX7_step_269 h
              · have h := h.2 c_20
                refine lv_aload_n hx hb dX7_step_264 rfl (lv_at hl 1 rfl) ?_
                refine lv_iconst (v := (1 : Int32)) hx hb dX7_step_265 (by decide) ?_
                have hrc := va_recv hK hP (ci := 7) (q0 := 0) rfl rfl
                refine zc_v (wc := [zM am (upd (upd (upd (upd f 11 (f 10)) 13 (0 : Int32)) 12 (3 : Int32)) 10 ((f 10) + (1 : Int32)))]) (wr := [zA (kk 1) (am 3) 160 tp]) (w1 := (fun u : (Nat → Int32) => [zM am u])) (rest := []) [0] [1] rfl rfl (by decide) (by decide) (by decide) hA hP hD hS (fun hP hD => va_runV (As := [.int (1 : Int32)]) (rest := []) ⟨hx, hb, hml, hown, hts⟩ (metX7_fails l D kk am _ (upd (upd (upd (upd f 11 (f 10)) 13 (0 : Int32)) 12 (3 : Int32)) 10 ((f 10) + (1 : Int32))) (1 : Int32) _ h) (cwV 1 hts (lw_V q1056 q1058 qs36 q71 q1059) rfl rfl rfl pdX7_fails ⟨(Nat.le_of_ble_eq_true rfl), (Nat.le_of_ble_eq_true rfl)⟩) (zp_V hK hN hrc hP hD) rfl rfl hl.1 rfl (lv_room (Nat.le_of_ble_eq_true rfl)) dX7_step_266 ⟨(Nat.le_of_ble_eq_true rfl), (Nat.le_of_ble_eq_true rfl)⟩) (fun u H locs h hP hD hS => ?_)
                obtain ⟨f_22, rfl⟩ : ∃ z, z = u := ⟨_, rfl⟩
                try dsimp only at h
                have hP : va_P D vwCl [zA (kk 1) (am 3) 160 tp, zM am f_22] H := hP
                have hD : va_D A [zA (kk 1) (am 3) 160 tp, zM am f_22] := hD
                exact zr_v hx hb hr hlk hP hD hS (f_22) [1, 0] rfl (by decide) dX7_step_269 h
            · have h := h.2 c_19
              obtain ⟨n_140, h⟩ := h
              exact cut_140 n_140 (upd (upd f 11 (f 10)) 13 (0 : Int32)) h _ _ hP hD hS _ (lv_sub hl [1] rfl)
          · have h := h.2 c_9
            obtain ⟨n_84, h⟩ := h
            exact cut_84 n_84 (upd (upd f 11 (f 10)) 13 (0 : Int32)) h _ _ hP hD hS _ (lv_sub hl [1] rfl)
        · have h := h.1 c_4
          refine lv_aload_n hx hb dX7_step_62 rfl (lv_at hl 1 rfl) ?_
          refine lv_iconst (v := (0 : Int32)) hx hb dX7_step_63 (by decide) ?_
          refine va_put (D := D) (ci := 7) (v := .int (0 : Int32)) (C := RX7) (T := TX7) (N := 29) hx hb hts in_X7 tyX7 tyX7_ok nmX7 hown hK hP hD hS 0 rfl rfl 12 (Nat.le_of_ble_eq_true rfl) (hts _ q951) (fun _ h9 => h9) rfl (tyX7_ok 12 (Nat.le_of_ble_eq_true rfl)) rfl rfl (Nat.le_of_ble_eq_true rfl) dX7_step_64 (fun H locs hP hD hS => ?_)
          have hP : va_P D vwCl [zM am (upd (upd (upd f 11 (f 10)) 13 (0 : Int32)) 12 (0 : Int32)), zA (kk 1) (am 3) 160 tp] H := hP
          have hD : va_D A [zM am (upd (upd (upd f 11 (f 10)) 13 (0 : Int32)) 12 (0 : Int32)), zA (kk 1) (am 3) 160 tp] := hD
          refine lv_goto (tgt := 269) hx hb dX7_step_67 (by decide) ?_
          exact zr_v hx hb hr hlk hP hD hS ((upd (upd (upd f 11 (f 10)) 13 (0 : Int32)) 12 (0 : Int32))) [0, 1] rfl (by decide) dX7_step_269 h
      · have h := h.1 c_2
        refine lv_aload_n hx hb dX7_step_21 rfl (lv_at hl 0 rfl) ?_
        refine lv_dup hx hb dX7_step_22 rfl ?_
        refine va_get (D := D) (ci := 7) (v := .int (f 10)) (C := RX7) (T := TX7) (N := 29) hx hb hts in_X7 hown hK hP 0 rfl rfl 10 (Nat.le_of_ble_eq_true rfl) (hts _ q949) (fun _ h9 => h9) rfl dX7_step_23 ?_
        refine lv_iconst (v := (1 : Int32)) hx hb dX7_step_26 (by decide) ?_
        refine lv_iadd hx hb dX7_step_27 ?_
        refine va_put (D := D) (ci := 7) (v := .int ((f 10) + (1 : Int32))) (C := RX7) (T := TX7) (N := 29) hx hb hts in_X7 tyX7 tyX7_ok nmX7 hown hK hP hD hS 0 rfl rfl 10 (Nat.le_of_ble_eq_true rfl) (hts _ q949) (fun _ h9 => h9) rfl (tyX7_ok 10 (Nat.le_of_ble_eq_true rfl)) rfl rfl (Nat.le_of_ble_eq_true rfl) dX7_step_28 (fun H locs hP hD hS => ?_)
        have hP : va_P D vwCl [zM am (upd f 10 ((f 10) + (1 : Int32))), zA (kk 1) (am 3) 160 tp] H := hP
        have hD : va_D A [zM am (upd f 10 ((f 10) + (1 : Int32))), zA (kk 1) (am 3) 160 tp] := hD
        refine lv_goto (tgt := 8) hx hb dX7_step_31 (by decide) ?_
        exact ih_8 (upd f 10 ((f 10) + (1 : Int32))) h _ _ hP hD hS _ (lv_sub hl [0] rfl)
  refine lv_if_le (tgt := 8) hx hb dX7_step_4 (by decide) (fun c_23 => ?_) (fun c_23 => ?_)
  · have h := h.1 c_23
    obtain ⟨n_8, h⟩ := h
    exact cut_8 n_8 f h _ _ hP hD hS _ (lv_sub hl [0] rfl)
  · have h := h.2 c_23
    exact zr_v hx hb hr hlk hP hD hS (f) [0, 1] rfl (by decide) dX7_step_7 h
def wpX7_number_62 (tp : Nat → Int32) (p1 : Int32) (p2 : Int32) (Q : Int32 → (Nat → Int32) → Prop) (f : Nat → Int32) (s0 : Int32) : Prop :=
  (wpX7_step f tp (fun f_2 => Q s0 f_2))
def wpX7_number_47 (tp : Nat → Int32) (p1 : Int32) (p2 : Int32) (Q : Int32 → (Nat → Int32) → Prop) (f : Nat → Int32) : Prop :=
  (((f 8) = 0 → wpX7_number_62 tp p1 p2 Q  f (f 13)) ∧ (¬ (f 8) = 0 → wpX7_number_62 tp p1 p2 Q  f p1))
def wpX7_number_20 (tp : Nat → Int32) (p1 : Int32) (p2 : Int32) (Q : Int32 → (Nat → Int32) → Prop) (f : Nat → Int32) : Prop :=
  (((f 8) = 0 → (wpX7_in ((f 13).toInt64) (p1.toInt64) (p2.toInt64) (fun r_5 => ((r_5 = 0 → (wpX7_fails f (3 : Int32) (fun f_8 => wpX7_number_47 tp p1 p2 Q  f_8))) ∧ (¬ r_5 = 0 → wpX7_number_47 tp p1 p2 Q  f))))) ∧ (¬ (f 8) = 0 → wpX7_number_47 tp p1 p2 Q  f))
def wpX7_number (f : Nat → Int32) (tp : Nat → Int32) (p1 : Int32) (p2 : Int32) (Q : Int32 → (Nat → Int32) → Prop) : Prop :=
  (((f 8) = 0 → (((f 12) = (2 : Int32) → wpX7_number_20 tp p1 p2 Q  f) ∧ (¬ (f 12) = (2 : Int32) → (wpX7_fails f (2 : Int32) (fun f_12 => wpX7_number_20 tp p1 p2 Q  f_12))))) ∧ (¬ (f 8) = 0 → wpX7_number_20 tp p1 p2 Q  f))
set_option maxHeartbeats 4000000 in
theorem metX7_number (l : Launch) (D : va_G) (kk : Nat → ClassId) (am : Nat → Nat) (sz : Nat) (f : Nat → Int32) (tp : Nat → Int32) (p1 : Int32) (p2 : Int32) (Q : Int32 → (Nat → Int32) → Prop) (h : wpX7_number f tp p1 p2 Q) : Met l yX7_number (ws_ yX7_number cX7_number 4 (some .int)) { frames := 2, cells := 0, slots := 0, locals := 46 } (va_Pc ([.ref (am 0), .int p1, .int p2] : List Value) (zPc D kk [zM am f, zA (kk 1) (am 3) 160 tp] sz)) (va_Qi (fun (r : Int32) (u : (Nat → Int32)) => Q r u) (zB D (va_A [zM am f, zA (kk 1) (am 3) 160 tp] sz) (fun u : (Nat → Int32) => [zM am u, zA (kk 1) (am 3) 160 tp])) (va_A [zM am f, zA (kk 1) (am 3) 160 tp] sz)) 0 0 (va_A [zM am f, zA (kk 1) (am 3) 160 tp] sz) := by
  refine zMet (Qc := fun A => va_Qi (fun (r : Int32) (u : (Nat → Int32)) => Q r u) (zB D A (fun u : (Nat → Int32) => [zM am u, zA (kk 1) (am 3) 160 tp])) A) (by decide) (Nat.le_of_ble_eq_true rfl) ?_
  intro p e s m below meth c A X hP hD hS ls hl
  obtain ⟨hx, hb, hr, hml, hown, hts, hlk, hnm, hK, hN, hA⟩ := X
  have hown : s.vm.findClass "LoseLeagueModel" = some m.cls := hown
  have hl : lv_has ls 4 [(0, .ref (am 0)), (1, .int p1), (2, .int p2)] := hl
  unfold wpX7_number at h
  refine lv_aload_n hx hb dX7_number_0 rfl (lv_at hl 0 rfl) ?_
  refine va_get (D := D) (ci := 7) (v := .int (f 8)) (C := RX7) (T := TX7) (N := 29) hx hb hts in_X7 hown hK hP 0 rfl rfl 8 (Nat.le_of_ble_eq_true rfl) (hts _ q947) (fun _ h9 => h9) rfl dX7_number_1 ?_
  have cut_20 : ∀ (f : Nat → Int32), wpX7_number_20 tp p1 p2 Q  f → ∀ (H : Heap) (locs : List Loc), va_P D vwCl [zM am f, zA (kk 1) (am 3) 160 tp] H → va_D A [zM am f, zA (kk 1) (am 3) 160 tp] → va_S A s.heap H locs → ∀ ls : Array Slot, lv_has ls 4 [(0, .ref (am 0)), (1, .int p1), (2, .int p2)] → W p l e { frames := 2, cells := 0, slots := 0, locals := 46 } s m ([.ref (am 0), .int p1, .int p2] : List Value).toArray below meth c H locs 0 0 (MQ below (va_Qi (fun (r : Int32) (u : (Nat → Int32)) => Q r u) (zB D A (fun u : (Nat → Int32) => [zM am u, zA (kk 1) (am 3) 160 tp])) A) ([.ref (am 0), .int p1, .int p2] : List Value).toArray s 0 0 A) (F0 m 20 ls []) := by
    intro f h H locs hP hD hS ls hl
    unfold wpX7_number_20 at h
    refine lv_aload_n hx hb dX7_number_20 rfl (lv_at hl 0 rfl) ?_
    refine va_get (D := D) (ci := 7) (v := .int (f 8)) (C := RX7) (T := TX7) (N := 29) hx hb hts in_X7 hown hK hP 0 rfl rfl 8 (Nat.le_of_ble_eq_true rfl) (hts _ q947) (fun _ h9 => h9) rfl dX7_number_21 ?_
    have cut_47 : ∀ (f : Nat → Int32), wpX7_number_47 tp p1 p2 Q  f → ∀ (H : Heap) (locs : List Loc), va_P D vwCl [zM am f, zA (kk 1) (am 3) 160 tp] H → va_D A [zM am f, zA (kk 1) (am 3) 160 tp] → va_S A s.heap H locs → ∀ ls : Array Slot, lv_has ls 4 [(0, .ref (am 0)), (1, .int p1)] → W p l e { frames := 2, cells := 0, slots := 0, locals := 46 } s m ([.ref (am 0), .int p1, .int p2] : List Value).toArray below meth c H locs 0 0 (MQ below (va_Qi (fun (r : Int32) (u : (Nat → Int32)) => Q r u) (zB D A (fun u : (Nat → Int32) => [zM am u, zA (kk 1) (am 3) 160 tp])) A) ([.ref (am 0), .int p1, .int p2] : List Value).toArray s 0 0 A) (F0 m 47 ls []) := by
      intro f h H locs hP hD hS ls hl
      unfold wpX7_number_47 at h
      refine lv_aload_n hx hb dX7_number_47 rfl (lv_at hl 0 rfl) ?_
      refine va_get (D := D) (ci := 7) (v := .int (f 8)) (C := RX7) (T := TX7) (N := 29) hx hb hts in_X7 hown hK hP 0 rfl rfl 8 (Nat.le_of_ble_eq_true rfl) (hts _ q947) (fun _ h9 => h9) rfl dX7_number_48 ?_
      have cut_62 : ∀ (f : Nat → Int32) (s0 : Int32), wpX7_number_62 tp p1 p2 Q  f s0 → ∀ (H : Heap) (locs : List Loc), va_P D vwCl [zM am f, zA (kk 1) (am 3) 160 tp] H → va_D A [zM am f, zA (kk 1) (am 3) 160 tp] → va_S A s.heap H locs → ∀ ls : Array Slot, lv_has ls 4 [(0, .ref (am 0))] → W p l e { frames := 2, cells := 0, slots := 0, locals := 46 } s m ([.ref (am 0), .int p1, .int p2] : List Value).toArray below meth c H locs 0 0 (MQ below (va_Qi (fun (r : Int32) (u : (Nat → Int32)) => Q r u) (zB D A (fun u : (Nat → Int32) => [zM am u, zA (kk 1) (am 3) 160 tp])) A) ([.ref (am 0), .int p1, .int p2] : List Value).toArray s 0 0 A) (F0 m 62 ls [.int s0]) := by
        intro f s0 h H locs hP hD hS ls hl
        unfold wpX7_number_62 at h
        refine lv_istore_n (lv' := [(3, .int s0), (0, .ref (am 0))]) hx hb dX7_number_62 rfl hl (by decide) rfl (fun ls hl => ?_)
        refine lv_aload_n hx hb dX7_number_63 rfl (lv_at hl 1 rfl) ?_
        have hrc := va_recv hK hP (ci := 7) (q0 := 0) rfl rfl
        refine zc_v (wc := [zM am f, zA (kk 1) (am 3) 160 tp]) (wr := []) (w1 := (fun u : (Nat → Int32) => [zM am u, zA (kk 1) (am 3) 160 tp])) (rest := []) [0, 1] [] rfl rfl (by decide) (by decide) (by decide) hA hP hD hS (fun hP hD => va_runV (As := []) (rest := []) ⟨hx, hb, hml, hown, hts⟩ (metX7_step l D kk am _ f tp _ h) (cwV 0 hts (lw_V q1044 q1046 qs34 q71 q1047) rfl rfl rfl pdX7_step ⟨(Nat.le_of_ble_eq_true rfl), (Nat.le_of_ble_eq_true rfl)⟩) (zp_V hK hN hrc hP hD) rfl rfl hl.1 rfl (lv_room (Nat.le_of_ble_eq_true rfl)) dX7_number_64 ⟨(Nat.le_of_ble_eq_true rfl), (Nat.le_of_ble_eq_true rfl)⟩) (fun u H locs h hP hD hS => ?_)
        obtain ⟨f_2, rfl⟩ : ∃ z, z = u := ⟨_, rfl⟩
        try dsimp only at h
        have hP : va_P D vwCl [zM am f_2, zA (kk 1) (am 3) 160 tp] H := hP
        have hD : va_D A [zM am f_2, zA (kk 1) (am 3) 160 tp] := hD
        refine lv_iload_n hx hb dX7_number_67 rfl (lv_at hl 0 rfl) ?_
        exact zr_i hx hb hr hlk rfl hP hD hS (f_2) [0, 1] rfl (by decide) dX7_number_68 h
      refine lv_if_ne (tgt := 61) hx hb dX7_number_51 (by decide) (fun c_3 => ?_) (fun c_3 => ?_)
      · have h := h.2 c_3
        refine lv_iload_n hx hb dX7_number_61 rfl (lv_at hl 1 rfl) ?_
        exact cut_62 f p1 h _ _ hP hD hS _ (lv_sub hl [0] rfl)
      · have h := h.1 c_3
        refine lv_aload_n hx hb dX7_number_54 rfl (lv_at hl 0 rfl) ?_
        refine va_get (D := D) (ci := 7) (v := .int (f 13)) (C := RX7) (T := TX7) (N := 29) hx hb hts in_X7 hown hK hP 0 rfl rfl 13 (Nat.le_of_ble_eq_true rfl) (hts _ q952) (fun _ h9 => h9) rfl dX7_number_55 ?_
        refine lv_goto (tgt := 62) hx hb dX7_number_58 (by decide) ?_
        exact cut_62 f (f 13) h _ _ hP hD hS _ (lv_sub hl [0] rfl)
    refine lv_if_ne (tgt := 47) hx hb dX7_number_24 (by decide) (fun c_4 => ?_) (fun c_4 => ?_)
    · have h := h.2 c_4
      exact cut_47 f h _ _ hP hD hS _ (lv_sub hl [0, 1] rfl)
    · have h := h.1 c_4
      refine lv_aload_n hx hb dX7_number_27 rfl (lv_at hl 0 rfl) ?_
      refine va_get (D := D) (ci := 7) (v := .int (f 13)) (C := RX7) (T := TX7) (N := 29) hx hb hts in_X7 hown hK hP 0 rfl rfl 13 (Nat.le_of_ble_eq_true rfl) (hts _ q952) (fun _ h9 => h9) rfl dX7_number_28 ?_
      refine lv_i2l hx hb dX7_number_31 rfl ?_
      refine lv_iload_n hx hb dX7_number_32 rfl (lv_at hl 1 rfl) ?_
      refine lv_i2l hx hb dX7_number_33 rfl ?_
      refine lv_iload_n hx hb dX7_number_34 rfl (lv_at hl 2 rfl) ?_
      refine lv_i2l hx hb dX7_number_35 rfl ?_
      refine zc_i (wc := []) (wr := [zM am f, zA (kk 1) (am 3) 160 tp]) (w1 := (fun u : Unit => [])) (rest := []) [] [0, 1] rfl rfl (by decide) (by decide) (by decide) hA hP hD hS (fun hP hD => va_runS (As := [.long ((f 13).toInt64), .long (p1.toInt64), .long (p2.toInt64)]) (rest := []) ⟨hx, hb, hml, hown, hts⟩ (metX7_in l D kk _ ((f 13).toInt64) (p1.toInt64) (p2.toInt64) _ h) (va_cwS 3 hts (lw_S q1033 q1034 q71 q1035) rfl rfl rfl pdX7_in.2 ⟨(Nat.le_of_ble_eq_true rfl), (Nat.le_of_ble_eq_true rfl)⟩) (zp_S hK hN hP hD) rfl rfl hl.1 rfl (lv_room (Nat.le_of_ble_eq_true rfl)) dX7_number_36 ⟨(Nat.le_of_ble_eq_true rfl), (Nat.le_of_ble_eq_true rfl)⟩) (fun r_5 u H locs h hP hD hS => ?_)
      try dsimp only at h
      have hP : va_P D vwCl [zM am f, zA (kk 1) (am 3) 160 tp] H := hP
      have hD : va_D A [zM am f, zA (kk 1) (am 3) 160 tp] := hD
      refine lv_if_ne (tgt := 47) hx hb dX7_number_39 (by decide) (fun c_6 => ?_) (fun c_6 => ?_)
      · have h := h.2 c_6
        exact cut_47 f h _ _ hP hD hS _ (lv_sub hl [0, 1] rfl)
      · have h := h.1 c_6
        refine lv_aload_n hx hb dX7_number_42 rfl (lv_at hl 0 rfl) ?_
        refine lv_iconst (v := (3 : Int32)) hx hb dX7_number_43 (by decide) ?_
        have hrc := va_recv hK hP (ci := 7) (q0 := 0) rfl rfl
        refine zc_v (wc := [zM am f]) (wr := [zA (kk 1) (am 3) 160 tp]) (w1 := (fun u : (Nat → Int32) => [zM am u])) (rest := []) [0] [1] rfl rfl (by decide) (by decide) (by decide) hA hP hD hS (fun hP hD => va_runV (As := [.int (3 : Int32)]) (rest := []) ⟨hx, hb, hml, hown, hts⟩ (metX7_fails l D kk am _ f (3 : Int32) _ h) (cwV 1 hts (lw_V q1056 q1058 qs36 q71 q1059) rfl rfl rfl pdX7_fails ⟨(Nat.le_of_ble_eq_true rfl), (Nat.le_of_ble_eq_true rfl)⟩) (zp_V hK hN hrc hP hD) rfl rfl hl.1 rfl (lv_room (Nat.le_of_ble_eq_true rfl)) dX7_number_44 ⟨(Nat.le_of_ble_eq_true rfl), (Nat.le_of_ble_eq_true rfl)⟩) (fun u H locs h hP hD hS => ?_)
        obtain ⟨f_8, rfl⟩ : ∃ z, z = u := ⟨_, rfl⟩
        try dsimp only at h
        have hP : va_P D vwCl [zA (kk 1) (am 3) 160 tp, zM am f_8] H := hP
        have hD : va_D A [zA (kk 1) (am 3) 160 tp, zM am f_8] := hD
        exact cut_47 f_8 h _ _ (hP.sub [1, 0] rfl) (hD.sub [1, 0] (by decide) rfl) hS _ (lv_sub hl [0, 1] rfl)
  refine lv_if_ne (tgt := 20) hx hb dX7_number_4 (by decide) (fun c_9 => ?_) (fun c_9 => ?_)
  · have h := h.2 c_9
    exact cut_20 f h _ _ hP hD hS _ (lv_sub hl [0, 1, 2] rfl)
  · have h := h.1 c_9
    refine lv_aload_n hx hb dX7_number_7 rfl (lv_at hl 0 rfl) ?_
    refine va_get (D := D) (ci := 7) (v := .int (f 12)) (C := RX7) (T := TX7) (N := 29) hx hb hts in_X7 hown hK hP 0 rfl rfl 12 (Nat.le_of_ble_eq_true rfl) (hts _ q951) (fun _ h9 => h9) rfl dX7_number_8 ?_
    refine lv_iconst (v := (2 : Int32)) hx hb dX7_number_11 (by decide) ?_
    refine lv_icmp_eq (tgt := 20) hx hb dX7_number_12 (by decide) (fun c_10 => ?_) (fun c_10 => ?_)
    · have h := h.1 c_10
      exact cut_20 f h _ _ hP hD hS _ (lv_sub hl [0, 1, 2] rfl)
    · have h := h.2 c_10
      refine lv_aload_n hx hb dX7_number_15 rfl (lv_at hl 0 rfl) ?_
      refine lv_iconst (v := (2 : Int32)) hx hb dX7_number_16 (by decide) ?_
      have hrc := va_recv hK hP (ci := 7) (q0 := 0) rfl rfl
      refine zc_v (wc := [zM am f]) (wr := [zA (kk 1) (am 3) 160 tp]) (w1 := (fun u : (Nat → Int32) => [zM am u])) (rest := []) [0] [1] rfl rfl (by decide) (by decide) (by decide) hA hP hD hS (fun hP hD => va_runV (As := [.int (2 : Int32)]) (rest := []) ⟨hx, hb, hml, hown, hts⟩ (metX7_fails l D kk am _ f (2 : Int32) _ h) (cwV 1 hts (lw_V q1056 q1058 qs36 q71 q1059) rfl rfl rfl pdX7_fails ⟨(Nat.le_of_ble_eq_true rfl), (Nat.le_of_ble_eq_true rfl)⟩) (zp_V hK hN hrc hP hD) rfl rfl hl.1 rfl (lv_room (Nat.le_of_ble_eq_true rfl)) dX7_number_17 ⟨(Nat.le_of_ble_eq_true rfl), (Nat.le_of_ble_eq_true rfl)⟩) (fun u H locs h hP hD hS => ?_)
      obtain ⟨f_12, rfl⟩ : ∃ z, z = u := ⟨_, rfl⟩
      try dsimp only at h
      have hP : va_P D vwCl [zA (kk 1) (am 3) 160 tp, zM am f_12] H := hP
      have hD : va_D A [zA (kk 1) (am 3) 160 tp, zM am f_12] := hD
      exact cut_20 f_12 h _ _ (hP.sub [1, 0] rfl) (hD.sub [1, 0] (by decide) rfl) hS _ (lv_sub hl [0, 1, 2] rfl)
def wpX7_townHere_24 (tp : Nat → Int32) (Q : Int32 → (Nat → Int32) → Prop) (f : Nat → Int32) (x1 : Int32) (s1 : Int32) : Prop :=
  Q x1 (upd f 4 s1)
def wpX7_townHere (f : Nat → Int32) (tp : Nat → Int32) (Q : Int32 → (Nat → Int32) → Prop) : Prop :=
  (wpX7_number f tp (0 : Int32) (4 : Int32) (fun r_1 f_2 => ((r_1 ≤ (f_2 4) → wpX7_townHere_24 tp Q  f_2 r_1 (f_2 4)) ∧ (¬ r_1 ≤ (f_2 4) → wpX7_townHere_24 tp Q  f_2 r_1 r_1))))
set_option maxHeartbeats 4000000 in
theorem metX7_townHere (l : Launch) (D : va_G) (kk : Nat → ClassId) (am : Nat → Nat) (sz : Nat) (f : Nat → Int32) (tp : Nat → Int32) (Q : Int32 → (Nat → Int32) → Prop) (h : wpX7_townHere f tp Q) : Met l yX7_townHere (ws_ yX7_townHere cX7_townHere 2 (some .int)) { frames := 3, cells := 0, slots := 0, locals := 69 } (va_Pc ([.ref (am 0)] : List Value) (zPc D kk [zM am f, zA (kk 1) (am 3) 160 tp] sz)) (va_Qi (fun (r : Int32) (u : (Nat → Int32)) => Q r u) (zB D (va_A [zM am f, zA (kk 1) (am 3) 160 tp] sz) (fun u : (Nat → Int32) => [zM am u, zA (kk 1) (am 3) 160 tp])) (va_A [zM am f, zA (kk 1) (am 3) 160 tp] sz)) 0 0 (va_A [zM am f, zA (kk 1) (am 3) 160 tp] sz) := by
  refine zMet (Qc := fun A => va_Qi (fun (r : Int32) (u : (Nat → Int32)) => Q r u) (zB D A (fun u : (Nat → Int32) => [zM am u, zA (kk 1) (am 3) 160 tp])) A) (by decide) (Nat.le_of_ble_eq_true rfl) ?_
  intro p e s m below meth c A X hP hD hS ls hl
  obtain ⟨hx, hb, hr, hml, hown, hts, hlk, hnm, hK, hN, hA⟩ := X
  have hown : s.vm.findClass "LoseLeagueModel" = some m.cls := hown
  have hl : lv_has ls 2 [(0, .ref (am 0))] := hl
  unfold wpX7_townHere at h
  refine lv_aload_n hx hb dX7_townHere_0 rfl (lv_at hl 0 rfl) ?_
  refine lv_iconst (v := (0 : Int32)) hx hb dX7_townHere_1 (by decide) ?_
  refine lv_iconst (v := (4 : Int32)) hx hb dX7_townHere_2 (by decide) ?_
  have hrc := va_recv hK hP (ci := 7) (q0 := 0) rfl rfl
  refine zc_i (wc := [zM am f, zA (kk 1) (am 3) 160 tp]) (wr := []) (w1 := (fun u : (Nat → Int32) => [zM am u, zA (kk 1) (am 3) 160 tp])) (rest := []) [0, 1] [] rfl rfl (by decide) (by decide) (by decide) hA hP hD hS (fun hP hD => va_runV (As := [.int (0 : Int32), .int (4 : Int32)]) (rest := []) ⟨hx, hb, hml, hown, hts⟩ (metX7_number l D kk am _ f tp (0 : Int32) (4 : Int32) _ h) (cwV 2 hts (lw_V q1073 q1075 qs40 q71 q1076) rfl rfl rfl pdX7_number ⟨(Nat.le_of_ble_eq_true rfl), (Nat.le_of_ble_eq_true rfl)⟩) (zp_V hK hN hrc hP hD) rfl rfl hl.1 rfl (lv_room (Nat.le_of_ble_eq_true rfl)) dX7_townHere_3 ⟨(Nat.le_of_ble_eq_true rfl), (Nat.le_of_ble_eq_true rfl)⟩) (fun r_1 u H locs h hP hD hS => ?_)
  obtain ⟨f_2, rfl⟩ : ∃ z, z = u := ⟨_, rfl⟩
  try dsimp only at h
  have hP : va_P D vwCl [zM am f_2, zA (kk 1) (am 3) 160 tp] H := hP
  have hD : va_D A [zM am f_2, zA (kk 1) (am 3) 160 tp] := hD
  refine lv_istore_n (lv' := [(1, .int r_1), (0, .ref (am 0))]) hx hb dX7_townHere_6 rfl hl (by decide) rfl (fun ls hl => ?_)
  refine lv_aload_n hx hb dX7_townHere_7 rfl (lv_at hl 1 rfl) ?_
  refine lv_iload_n hx hb dX7_townHere_8 rfl (lv_at hl 0 rfl) ?_
  refine lv_aload_n hx hb dX7_townHere_9 rfl (lv_at hl 1 rfl) ?_
  refine va_get (D := D) (ci := 7) (v := .int (f_2 4)) (C := RX7) (T := TX7) (N := 29) hx hb hts in_X7 hown hK hP 0 rfl rfl 4 (Nat.le_of_ble_eq_true rfl) (hts _ q943) (fun _ h9 => h9) rfl dX7_townHere_10 ?_
  have cut_24 : ∀ (f : Nat → Int32) (x1 : Int32) (s1 : Int32), wpX7_townHere_24 tp Q  f x1 s1 → ∀ (H : Heap) (locs : List Loc), va_P D vwCl [zM am f, zA (kk 1) (am 3) 160 tp] H → va_D A [zM am f, zA (kk 1) (am 3) 160 tp] → va_S A s.heap H locs → ∀ ls : Array Slot, lv_has ls 2 [(1, .int x1)] → W p l e { frames := 3, cells := 0, slots := 0, locals := 69 } s m ([.ref (am 0)] : List Value).toArray below meth c H locs 0 0 (MQ below (va_Qi (fun (r : Int32) (u : (Nat → Int32)) => Q r u) (zB D A (fun u : (Nat → Int32) => [zM am u, zA (kk 1) (am 3) 160 tp])) A) ([.ref (am 0)] : List Value).toArray s 0 0 A) (F0 m 24 ls [.int s1, .ref (am 0)]) := by
    intro f x1 s1 h H locs hP hD hS ls hl
    unfold wpX7_townHere_24 at h
    refine va_put (D := D) (ci := 7) (v := .int s1) (C := RX7) (T := TX7) (N := 29) hx hb hts in_X7 tyX7 tyX7_ok nmX7 hown hK hP hD hS 0 rfl rfl 4 (Nat.le_of_ble_eq_true rfl) (hts _ q943) (fun _ h9 => h9) rfl (tyX7_ok 4 (Nat.le_of_ble_eq_true rfl)) rfl rfl (Nat.le_of_ble_eq_true rfl) dX7_townHere_24 (fun H locs hP hD hS => ?_)
    have hP : va_P D vwCl [zM am (upd f 4 s1), zA (kk 1) (am 3) 160 tp] H := hP
    have hD : va_D A [zM am (upd f 4 s1), zA (kk 1) (am 3) 160 tp] := hD
    refine lv_iload_n hx hb dX7_townHere_27 rfl (lv_at hl 0 rfl) ?_
    exact zr_i hx hb hr hlk rfl hP hD hS ((upd f 4 s1)) [0, 1] rfl (by decide) dX7_townHere_28 h
  refine lv_icmp_le (tgt := 20) hx hb dX7_townHere_13 (by decide) (fun c_3 => ?_) (fun c_3 => ?_)
  · have h := h.1 c_3
    refine lv_aload_n hx hb dX7_townHere_20 rfl (lv_at hl 1 rfl) ?_
    refine va_get (D := D) (ci := 7) (v := .int (f_2 4)) (C := RX7) (T := TX7) (N := 29) hx hb hts in_X7 hown hK hP 0 rfl rfl 4 (Nat.le_of_ble_eq_true rfl) (hts _ q943) (fun _ h9 => h9) rfl dX7_townHere_21 ?_
    exact cut_24 f_2 r_1 (f_2 4) h _ _ hP hD hS _ (lv_sub hl [0] rfl)
  · have h := h.2 c_3
    refine lv_iload_n hx hb dX7_townHere_16 rfl (lv_at hl 0 rfl) ?_
    refine lv_goto (tgt := 24) hx hb dX7_townHere_17 (by decide) ?_
    exact cut_24 f_2 r_1 r_1 h _ _ hP hD hS _ (lv_sub hl [0] rfl)
def wpX7_readMore_85 (tp : Nat → Int32) (p1 : Int32) (Q : (Nat → Int32) → (Nat → Int32) → Prop) (f : Nat → Int32) (rp : Nat → Int32) (x2 : Int32) (x3 : Int32) : Prop :=
  (vp_in ((20 : Int32) + x2) 42 ∧ (wpX7_townHere f tp (fun r_5 f_6 => (vp_in ((30 : Int32) + x2) 42 ∧ (∀ v_7 : Int32, v_7 = (((upd (upd rp ((20 : Int32) + x2).toNatClampNeg x3) ((30 : Int32) + x2).toNatClampNeg r_5) (40 : Int32).toNatClampNeg) + (1 : Int32)) → Q f_6 (upd (upd (upd rp ((20 : Int32) + x2).toNatClampNeg x3) ((30 : Int32) + x2).toNatClampNeg r_5) (40 : Int32).toNatClampNeg v_7))))))
def wpX7_readMore (f : Nat → Int32) (rp : Nat → Int32) (tp : Nat → Int32) (p1 : Int32) (Q : (Nat → Int32) → (Nat → Int32) → Prop) : Prop :=
  (((3 : Int32) < p1 → (∀ x2_2 : Int32, x2_2 = (rp (40 : Int32).toNatClampNeg) → (wpX7_townHere f tp (fun r_3 f_4 => (((f_4 8) = 0 → (((f_4 12) = (2 : Int32) → (((f_4 13) = r_3 → (wpX7_fails f_4 (3 : Int32) (fun f_12 => wpX7_readMore_85 tp p1 Q  f_12 rp x2_2 r_3))) ∧ (¬ (f_4 13) = r_3 → wpX7_readMore_85 tp p1 Q  f_4 rp x2_2 r_3))) ∧ (¬ (f_4 12) = (2 : Int32) → wpX7_readMore_85 tp p1 Q  f_4 rp x2_2 r_3))) ∧ (¬ (f_4 8) = 0 → wpX7_readMore_85 tp p1 Q  f_4 rp x2_2 r_3)))))) ∧ (¬ (3 : Int32) < p1 → (vp_in (f 3) 42 ∧ (wpX7_number f tp (0 : Int32) (20 : Int32) (fun r_13 f_14 => (vp_in ((5 : Int32) + (f 3)) 42 ∧ Q (upd f_14 3 ((f_14 3) + (1 : Int32))) (upd (upd rp (f 3).toNatClampNeg p1) ((5 : Int32) + (f 3)).toNatClampNeg r_13)))))))
set_option maxHeartbeats 4000000 in
theorem metX7_readMore (l : Launch) (D : va_G) (kk : Nat → ClassId) (am : Nat → Nat) (sz : Nat) (f : Nat → Int32) (rp : Nat → Int32) (tp : Nat → Int32) (p1 : Int32) (Q : (Nat → Int32) → (Nat → Int32) → Prop) (h : wpX7_readMore f rp tp p1 Q) : Met l yX7_readMore (ws_ yX7_readMore cX7_readMore 4 none) { frames := 4, cells := 0, slots := 0, locals := 90 } (va_Pc ([.ref (am 0), .int p1] : List Value) (zPc D kk [zM am f, zA (kk 1) (am 2) 42 rp, zA (kk 1) (am 3) 160 tp] sz)) (va_Qv (fun (u : (Nat → Int32) × (Nat → Int32)) => Q u.1 u.2) (zB D (va_A [zM am f, zA (kk 1) (am 2) 42 rp, zA (kk 1) (am 3) 160 tp] sz) (fun u : (Nat → Int32) × (Nat → Int32) => [zM am u.1, zA (kk 1) (am 2) 42 u.2, zA (kk 1) (am 3) 160 tp])) (va_A [zM am f, zA (kk 1) (am 2) 42 rp, zA (kk 1) (am 3) 160 tp] sz)) 0 0 (va_A [zM am f, zA (kk 1) (am 2) 42 rp, zA (kk 1) (am 3) 160 tp] sz) := by
  refine zMet (Qc := fun A => va_Qv (fun (u : (Nat → Int32) × (Nat → Int32)) => Q u.1 u.2) (zB D A (fun u : (Nat → Int32) × (Nat → Int32) => [zM am u.1, zA (kk 1) (am 2) 42 u.2, zA (kk 1) (am 3) 160 tp])) A) (by decide) (Nat.le_of_ble_eq_true rfl) ?_
  intro p e s m below meth c A X hP hD hS ls hl
  obtain ⟨hx, hb, hr, hml, hown, hts, hlk, hnm, hK, hN, hA⟩ := X
  have hown : s.vm.findClass "LoseLeagueModel" = some m.cls := hown
  have hl : lv_has ls 4 [(0, .ref (am 0)), (1, .int p1)] := hl
  unfold wpX7_readMore at h
  refine lv_iload_n hx hb dX7_readMore_0 rfl (lv_at hl 1 rfl) ?_
  refine lv_iconst (v := (3 : Int32)) hx hb dX7_readMore_1 (by decide) ?_
  refine lv_icmp_gt (tgt := 44) hx hb dX7_readMore_2 (by decide) (fun c_1 => ?_) (fun c_1 => ?_)
  · have h := h.1 c_1
    refine lv_aload_n hx hb dX7_readMore_44 rfl (lv_at hl 0 rfl) ?_
    refine va_get (D := D) (ci := 7) (v := .ref (am 2)) (C := RX7) (T := TX7) (N := 29) hx hb hts in_X7 hown hK hP 0 rfl rfl 2 (Nat.le_of_ble_eq_true rfl) (hts _ q941) (fun _ h9 => h9) rfl dX7_readMore_45 ?_
    refine lv_bipush (v := (40 : Int32)) hx hb dX7_readMore_48 (by decide) ?_
    refine va_iald hx hb hK hP 1 1 rfl rfl (by unfold vp_in; decide) dX7_readMore_50 ?_
    refine lv_topi (fun x2_2 ex2_2 => ?_)
    have h := h x2_2 ex2_2
    refine lv_istore_n (lv' := [(2, .int x2_2), (0, .ref (am 0)), (1, .int p1)]) hx hb dX7_readMore_51 rfl hl (by decide) rfl (fun ls hl => ?_)
    refine lv_aload_n hx hb dX7_readMore_52 rfl (lv_at hl 1 rfl) ?_
    have hrc := va_recv hK hP (ci := 7) (q0 := 0) rfl rfl
    refine zc_i (wc := [zM am f, zA (kk 1) (am 3) 160 tp]) (wr := [zA (kk 1) (am 2) 42 rp]) (w1 := (fun u : (Nat → Int32) => [zM am u, zA (kk 1) (am 3) 160 tp])) (rest := []) [0, 2] [1] rfl rfl (by decide) (by decide) (by decide) hA hP hD hS (fun hP hD => va_runV (As := []) (rest := []) ⟨hx, hb, hml, hown, hts⟩ (metX7_townHere l D kk am _ f tp _ h) (cwV 0 hts (lw_V q1077 q1079 qs41 q71 q1080) rfl rfl rfl pdX7_townHere ⟨(Nat.le_of_ble_eq_true rfl), (Nat.le_of_ble_eq_true rfl)⟩) (zp_V hK hN hrc hP hD) rfl rfl hl.1 rfl (lv_room (Nat.le_of_ble_eq_true rfl)) dX7_readMore_53 ⟨(Nat.le_of_ble_eq_true rfl), (Nat.le_of_ble_eq_true rfl)⟩) (fun r_3 u H locs h hP hD hS => ?_)
    obtain ⟨f_4, rfl⟩ : ∃ z, z = u := ⟨_, rfl⟩
    try dsimp only at h
    have hP : va_P D vwCl [zA (kk 1) (am 2) 42 rp, zM am f_4, zA (kk 1) (am 3) 160 tp] H := hP
    have hD : va_D A [zA (kk 1) (am 2) 42 rp, zM am f_4, zA (kk 1) (am 3) 160 tp] := hD
    refine lv_istore_n (lv' := [(3, .int r_3), (2, .int x2_2), (0, .ref (am 0)), (1, .int p1)]) hx hb dX7_readMore_56 rfl hl (by decide) rfl (fun ls hl => ?_)
    refine lv_aload_n hx hb dX7_readMore_57 rfl (lv_at hl 2 rfl) ?_
    refine va_get (D := D) (ci := 7) (v := .int (f_4 8)) (C := RX7) (T := TX7) (N := 29) hx hb hts in_X7 hown hK hP 1 rfl rfl 8 (Nat.le_of_ble_eq_true rfl) (hts _ q947) (fun _ h9 => h9) rfl dX7_readMore_58 ?_
    have cut_85 : ∀ (f : Nat → Int32) (rp : Nat → Int32) (x2 : Int32) (x3 : Int32), wpX7_readMore_85 tp p1 Q  f rp x2 x3 → ∀ (H : Heap) (locs : List Loc), va_P D vwCl [zM am f, zA (kk 1) (am 2) 42 rp, zA (kk 1) (am 3) 160 tp] H → va_D A [zM am f, zA (kk 1) (am 2) 42 rp, zA (kk 1) (am 3) 160 tp] → va_S A s.heap H locs → ∀ ls : Array Slot, lv_has ls 4 [(2, .int x2), (3, .int x3), (0, .ref (am 0))] → W p l e { frames := 4, cells := 0, slots := 0, locals := 90 } s m ([.ref (am 0), .int p1] : List Value).toArray below meth c H locs 0 0 (MQ below (va_Qv (fun (u : (Nat → Int32) × (Nat → Int32)) => Q u.1 u.2) (zB D A (fun u : (Nat → Int32) × (Nat → Int32) => [zM am u.1, zA (kk 1) (am 2) 42 u.2, zA (kk 1) (am 3) 160 tp])) A) ([.ref (am 0), .int p1] : List Value).toArray s 0 0 A) (F0 m 85 ls []) := by
      intro f rp x2 x3 h H locs hP hD hS ls hl
      unfold wpX7_readMore_85 at h
      refine lv_aload_n hx hb dX7_readMore_85 rfl (lv_at hl 2 rfl) ?_
      refine va_get (D := D) (ci := 7) (v := .ref (am 2)) (C := RX7) (T := TX7) (N := 29) hx hb hts in_X7 hown hK hP 0 rfl rfl 2 (Nat.le_of_ble_eq_true rfl) (hts _ q941) (fun _ h9 => h9) rfl dX7_readMore_86 ?_
      refine lv_bipush (v := (20 : Int32)) hx hb dX7_readMore_89 (by decide) ?_
      refine lv_iload_n hx hb dX7_readMore_91 rfl (lv_at hl 0 rfl) ?_
      refine lv_iadd hx hb dX7_readMore_92 ?_
      refine lv_iload_n hx hb dX7_readMore_93 rfl (lv_at hl 1 rfl) ?_
      obtain ⟨hin, h⟩ := h
      refine va_iast hx hb hK hP hD hS 1 1 rfl rfl hin dX7_readMore_94 (fun H locs hP hD hS => ?_)
      have hP : va_P D vwCl [zM am f, zA (kk 1) (am 2) 42 (upd rp ((20 : Int32) + x2).toNatClampNeg x3), zA (kk 1) (am 3) 160 tp] H := hP
      have hD : va_D A [zM am f, zA (kk 1) (am 2) 42 (upd rp ((20 : Int32) + x2).toNatClampNeg x3), zA (kk 1) (am 3) 160 tp] := hD
      refine lv_aload_n hx hb dX7_readMore_95 rfl (lv_at hl 2 rfl) ?_
      refine va_get (D := D) (ci := 7) (v := .ref (am 2)) (C := RX7) (T := TX7) (N := 29) hx hb hts in_X7 hown hK hP 0 rfl rfl 2 (Nat.le_of_ble_eq_true rfl) (hts _ q941) (fun _ h9 => h9) rfl dX7_readMore_96 ?_
      refine lv_bipush (v := (30 : Int32)) hx hb dX7_readMore_99 (by decide) ?_
      refine lv_iload_n hx hb dX7_readMore_101 rfl (lv_at hl 0 rfl) ?_
      refine lv_iadd hx hb dX7_readMore_102 ?_
      refine lv_aload_n hx hb dX7_readMore_103 rfl (lv_at hl 2 rfl) ?_
      have hrc := va_recv hK hP (ci := 7) (q0 := 0) rfl rfl
      refine zc_i (wc := [zM am f, zA (kk 1) (am 3) 160 tp]) (wr := [zA (kk 1) (am 2) 42 (upd rp ((20 : Int32) + x2).toNatClampNeg x3)]) (w1 := (fun u : (Nat → Int32) => [zM am u, zA (kk 1) (am 3) 160 tp])) (rest := [.int ((30 : Int32) + x2), .ref (am 2)]) [0, 2] [1] rfl rfl (by decide) (by decide) (by decide) hA hP hD hS (fun hP hD => va_runV (As := []) (rest := [.int ((30 : Int32) + x2), .ref (am 2)]) ⟨hx, hb, hml, hown, hts⟩ (metX7_townHere l D kk am _ f tp _ h) (cwV 0 hts (lw_V q1077 q1079 qs41 q71 q1080) rfl rfl rfl pdX7_townHere ⟨(Nat.le_of_ble_eq_true rfl), (Nat.le_of_ble_eq_true rfl)⟩) (zp_V hK hN hrc hP hD) rfl rfl hl.1 rfl (lv_room (Nat.le_of_ble_eq_true rfl)) dX7_readMore_104 ⟨(Nat.le_of_ble_eq_true rfl), (Nat.le_of_ble_eq_true rfl)⟩) (fun r_5 u H locs h hP hD hS => ?_)
      obtain ⟨f_6, rfl⟩ : ∃ z, z = u := ⟨_, rfl⟩
      try dsimp only at h
      have hP : va_P D vwCl [zA (kk 1) (am 2) 42 (upd rp ((20 : Int32) + x2).toNatClampNeg x3), zM am f_6, zA (kk 1) (am 3) 160 tp] H := hP
      have hD : va_D A [zA (kk 1) (am 2) 42 (upd rp ((20 : Int32) + x2).toNatClampNeg x3), zM am f_6, zA (kk 1) (am 3) 160 tp] := hD
      obtain ⟨hin, h⟩ := h
      refine va_iast hx hb hK hP hD hS 0 1 rfl rfl hin dX7_readMore_107 (fun H locs hP hD hS => ?_)
      have hP : va_P D vwCl [zA (kk 1) (am 2) 42 (upd (upd rp ((20 : Int32) + x2).toNatClampNeg x3) ((30 : Int32) + x2).toNatClampNeg r_5), zM am f_6, zA (kk 1) (am 3) 160 tp] H := hP
      have hD : va_D A [zA (kk 1) (am 2) 42 (upd (upd rp ((20 : Int32) + x2).toNatClampNeg x3) ((30 : Int32) + x2).toNatClampNeg r_5), zM am f_6, zA (kk 1) (am 3) 160 tp] := hD
      refine lv_aload_n hx hb dX7_readMore_108 rfl (lv_at hl 2 rfl) ?_
      refine va_get (D := D) (ci := 7) (v := .ref (am 2)) (C := RX7) (T := TX7) (N := 29) hx hb hts in_X7 hown hK hP 1 rfl rfl 2 (Nat.le_of_ble_eq_true rfl) (hts _ q941) (fun _ h9 => h9) rfl dX7_readMore_109 ?_
      refine lv_bipush (v := (40 : Int32)) hx hb dX7_readMore_112 (by decide) ?_
      refine lv_dup2_11 hx hb dX7_readMore_114 rfl rfl ?_
      refine va_iald hx hb hK hP 0 1 rfl rfl (by unfold vp_in; decide) dX7_readMore_115 ?_
      refine lv_iconst (v := (1 : Int32)) hx hb dX7_readMore_116 (by decide) ?_
      refine lv_iadd hx hb dX7_readMore_117 ?_
      refine lv_topi (fun v_7 ev_7 => ?_)
      have h := h v_7 ev_7
      refine va_iast hx hb hK hP hD hS 0 1 rfl rfl (by unfold vp_in; decide) dX7_readMore_118 (fun H locs hP hD hS => ?_)
      have hP : va_P D vwCl [zA (kk 1) (am 2) 42 (upd (upd (upd rp ((20 : Int32) + x2).toNatClampNeg x3) ((30 : Int32) + x2).toNatClampNeg r_5) (40 : Int32).toNatClampNeg v_7), zM am f_6, zA (kk 1) (am 3) 160 tp] H := hP
      have hD : va_D A [zA (kk 1) (am 2) 42 (upd (upd (upd rp ((20 : Int32) + x2).toNatClampNeg x3) ((30 : Int32) + x2).toNatClampNeg r_5) (40 : Int32).toNatClampNeg v_7), zM am f_6, zA (kk 1) (am 3) 160 tp] := hD
      exact zr_v hx hb hr hlk hP hD hS (f_6, (upd (upd (upd rp ((20 : Int32) + x2).toNatClampNeg x3) ((30 : Int32) + x2).toNatClampNeg r_5) (40 : Int32).toNatClampNeg v_7)) [1, 0, 2] rfl (by decide) dX7_readMore_119 h
    refine lv_if_ne (tgt := 85) hx hb dX7_readMore_61 (by decide) (fun c_8 => ?_) (fun c_8 => ?_)
    · have h := h.2 c_8
      exact cut_85 f_4 rp x2_2 r_3 h _ _ (hP.sub [1, 0, 2] rfl) (hD.sub [1, 0, 2] (by decide) rfl) hS _ (lv_sub hl [1, 0, 2] rfl)
    · have h := h.1 c_8
      refine lv_aload_n hx hb dX7_readMore_64 rfl (lv_at hl 2 rfl) ?_
      refine va_get (D := D) (ci := 7) (v := .int (f_4 12)) (C := RX7) (T := TX7) (N := 29) hx hb hts in_X7 hown hK hP 1 rfl rfl 12 (Nat.le_of_ble_eq_true rfl) (hts _ q951) (fun _ h9 => h9) rfl dX7_readMore_65 ?_
      refine lv_iconst (v := (2 : Int32)) hx hb dX7_readMore_68 (by decide) ?_
      refine lv_icmp_ne (tgt := 85) hx hb dX7_readMore_69 (by decide) (fun c_9 => ?_) (fun c_9 => ?_)
      · have h := h.2 c_9
        exact cut_85 f_4 rp x2_2 r_3 h _ _ (hP.sub [1, 0, 2] rfl) (hD.sub [1, 0, 2] (by decide) rfl) hS _ (lv_sub hl [1, 0, 2] rfl)
      · have h := h.1 c_9
        refine lv_aload_n hx hb dX7_readMore_72 rfl (lv_at hl 2 rfl) ?_
        refine va_get (D := D) (ci := 7) (v := .int (f_4 13)) (C := RX7) (T := TX7) (N := 29) hx hb hts in_X7 hown hK hP 1 rfl rfl 13 (Nat.le_of_ble_eq_true rfl) (hts _ q952) (fun _ h9 => h9) rfl dX7_readMore_73 ?_
        refine lv_iload_n hx hb dX7_readMore_76 rfl (lv_at hl 0 rfl) ?_
        refine lv_icmp_ne (tgt := 85) hx hb dX7_readMore_77 (by decide) (fun c_10 => ?_) (fun c_10 => ?_)
        · have h := h.2 c_10
          exact cut_85 f_4 rp x2_2 r_3 h _ _ (hP.sub [1, 0, 2] rfl) (hD.sub [1, 0, 2] (by decide) rfl) hS _ (lv_sub hl [1, 0, 2] rfl)
        · have h := h.1 c_10
          refine lv_aload_n hx hb dX7_readMore_80 rfl (lv_at hl 2 rfl) ?_
          refine lv_iconst (v := (3 : Int32)) hx hb dX7_readMore_81 (by decide) ?_
          have hrc := va_recv hK hP (ci := 7) (q0 := 1) rfl rfl
          refine zc_v (wc := [zM am f_4]) (wr := [zA (kk 1) (am 2) 42 rp, zA (kk 1) (am 3) 160 tp]) (w1 := (fun u : (Nat → Int32) => [zM am u])) (rest := []) [1] [0, 2] rfl rfl (by decide) (by decide) (by decide) hA hP hD hS (fun hP hD => va_runV (As := [.int (3 : Int32)]) (rest := []) ⟨hx, hb, hml, hown, hts⟩ (metX7_fails l D kk am _ f_4 (3 : Int32) _ h) (cwV 1 hts (lw_V q1056 q1058 qs36 q71 q1059) rfl rfl rfl pdX7_fails ⟨(Nat.le_of_ble_eq_true rfl), (Nat.le_of_ble_eq_true rfl)⟩) (zp_V hK hN hrc hP hD) rfl rfl hl.1 rfl (lv_room (Nat.le_of_ble_eq_true rfl)) dX7_readMore_82 ⟨(Nat.le_of_ble_eq_true rfl), (Nat.le_of_ble_eq_true rfl)⟩) (fun u H locs h hP hD hS => ?_)
          obtain ⟨f_12, rfl⟩ : ∃ z, z = u := ⟨_, rfl⟩
          try dsimp only at h
          have hP : va_P D vwCl [zA (kk 1) (am 2) 42 rp, zA (kk 1) (am 3) 160 tp, zM am f_12] H := hP
          have hD : va_D A [zA (kk 1) (am 2) 42 rp, zA (kk 1) (am 3) 160 tp, zM am f_12] := hD
          exact cut_85 f_12 rp x2_2 r_3 h _ _ (hP.sub [2, 0, 1] rfl) (hD.sub [2, 0, 1] (by decide) rfl) hS _ (lv_sub hl [1, 0, 2] rfl)
  · have h := h.2 c_1
    refine lv_aload_n hx hb dX7_readMore_5 rfl (lv_at hl 0 rfl) ?_
    refine va_get (D := D) (ci := 7) (v := .ref (am 2)) (C := RX7) (T := TX7) (N := 29) hx hb hts in_X7 hown hK hP 0 rfl rfl 2 (Nat.le_of_ble_eq_true rfl) (hts _ q941) (fun _ h9 => h9) rfl dX7_readMore_6 ?_
    refine lv_aload_n hx hb dX7_readMore_9 rfl (lv_at hl 0 rfl) ?_
    refine va_get (D := D) (ci := 7) (v := .int (f 3)) (C := RX7) (T := TX7) (N := 29) hx hb hts in_X7 hown hK hP 0 rfl rfl 3 (Nat.le_of_ble_eq_true rfl) (hts _ q942) (fun _ h9 => h9) rfl dX7_readMore_10 ?_
    refine lv_iload_n hx hb dX7_readMore_13 rfl (lv_at hl 1 rfl) ?_
    obtain ⟨hin, h⟩ := h
    refine va_iast hx hb hK hP hD hS 1 1 rfl rfl hin dX7_readMore_14 (fun H locs hP hD hS => ?_)
    have hP : va_P D vwCl [zM am f, zA (kk 1) (am 2) 42 (upd rp (f 3).toNatClampNeg p1), zA (kk 1) (am 3) 160 tp] H := hP
    have hD : va_D A [zM am f, zA (kk 1) (am 2) 42 (upd rp (f 3).toNatClampNeg p1), zA (kk 1) (am 3) 160 tp] := hD
    refine lv_aload_n hx hb dX7_readMore_15 rfl (lv_at hl 0 rfl) ?_
    refine va_get (D := D) (ci := 7) (v := .ref (am 2)) (C := RX7) (T := TX7) (N := 29) hx hb hts in_X7 hown hK hP 0 rfl rfl 2 (Nat.le_of_ble_eq_true rfl) (hts _ q941) (fun _ h9 => h9) rfl dX7_readMore_16 ?_
    refine lv_iconst (v := (5 : Int32)) hx hb dX7_readMore_19 (by decide) ?_
    refine lv_aload_n hx hb dX7_readMore_20 rfl (lv_at hl 0 rfl) ?_
    refine va_get (D := D) (ci := 7) (v := .int (f 3)) (C := RX7) (T := TX7) (N := 29) hx hb hts in_X7 hown hK hP 0 rfl rfl 3 (Nat.le_of_ble_eq_true rfl) (hts _ q942) (fun _ h9 => h9) rfl dX7_readMore_21 ?_
    refine lv_iadd hx hb dX7_readMore_24 ?_
    refine lv_aload_n hx hb dX7_readMore_25 rfl (lv_at hl 0 rfl) ?_
    refine lv_iconst (v := (0 : Int32)) hx hb dX7_readMore_26 (by decide) ?_
    refine lv_bipush (v := (20 : Int32)) hx hb dX7_readMore_27 (by decide) ?_
    have hrc := va_recv hK hP (ci := 7) (q0 := 0) rfl rfl
    refine zc_i (wc := [zM am f, zA (kk 1) (am 3) 160 tp]) (wr := [zA (kk 1) (am 2) 42 (upd rp (f 3).toNatClampNeg p1)]) (w1 := (fun u : (Nat → Int32) => [zM am u, zA (kk 1) (am 3) 160 tp])) (rest := [.int ((5 : Int32) + (f 3)), .ref (am 2)]) [0, 2] [1] rfl rfl (by decide) (by decide) (by decide) hA hP hD hS (fun hP hD => va_runV (As := [.int (0 : Int32), .int (20 : Int32)]) (rest := [.int ((5 : Int32) + (f 3)), .ref (am 2)]) ⟨hx, hb, hml, hown, hts⟩ (metX7_number l D kk am _ f tp (0 : Int32) (20 : Int32) _ h) (cwV 2 hts (lw_V q1073 q1075 qs40 q71 q1076) rfl rfl rfl pdX7_number ⟨(Nat.le_of_ble_eq_true rfl), (Nat.le_of_ble_eq_true rfl)⟩) (zp_V hK hN hrc hP hD) rfl rfl hl.1 rfl (lv_room (Nat.le_of_ble_eq_true rfl)) dX7_readMore_29 ⟨(Nat.le_of_ble_eq_true rfl), (Nat.le_of_ble_eq_true rfl)⟩) (fun r_13 u H locs h hP hD hS => ?_)
    obtain ⟨f_14, rfl⟩ : ∃ z, z = u := ⟨_, rfl⟩
    try dsimp only at h
    have hP : va_P D vwCl [zA (kk 1) (am 2) 42 (upd rp (f 3).toNatClampNeg p1), zM am f_14, zA (kk 1) (am 3) 160 tp] H := hP
    have hD : va_D A [zA (kk 1) (am 2) 42 (upd rp (f 3).toNatClampNeg p1), zM am f_14, zA (kk 1) (am 3) 160 tp] := hD
    obtain ⟨hin, h⟩ := h
    refine va_iast hx hb hK hP hD hS 0 1 rfl rfl hin dX7_readMore_32 (fun H locs hP hD hS => ?_)
    have hP : va_P D vwCl [zA (kk 1) (am 2) 42 (upd (upd rp (f 3).toNatClampNeg p1) ((5 : Int32) + (f 3)).toNatClampNeg r_13), zM am f_14, zA (kk 1) (am 3) 160 tp] H := hP
    have hD : va_D A [zA (kk 1) (am 2) 42 (upd (upd rp (f 3).toNatClampNeg p1) ((5 : Int32) + (f 3)).toNatClampNeg r_13), zM am f_14, zA (kk 1) (am 3) 160 tp] := hD
    refine lv_aload_n hx hb dX7_readMore_33 rfl (lv_at hl 0 rfl) ?_
    refine lv_dup hx hb dX7_readMore_34 rfl ?_
    refine va_get (D := D) (ci := 7) (v := .int (f_14 3)) (C := RX7) (T := TX7) (N := 29) hx hb hts in_X7 hown hK hP 1 rfl rfl 3 (Nat.le_of_ble_eq_true rfl) (hts _ q942) (fun _ h9 => h9) rfl dX7_readMore_35 ?_
    refine lv_iconst (v := (1 : Int32)) hx hb dX7_readMore_38 (by decide) ?_
    refine lv_iadd hx hb dX7_readMore_39 ?_
    refine va_put (D := D) (ci := 7) (v := .int ((f_14 3) + (1 : Int32))) (C := RX7) (T := TX7) (N := 29) hx hb hts in_X7 tyX7 tyX7_ok nmX7 hown hK hP hD hS 1 rfl rfl 3 (Nat.le_of_ble_eq_true rfl) (hts _ q942) (fun _ h9 => h9) rfl (tyX7_ok 3 (Nat.le_of_ble_eq_true rfl)) rfl rfl (Nat.le_of_ble_eq_true rfl) dX7_readMore_40 (fun H locs hP hD hS => ?_)
    have hP : va_P D vwCl [zA (kk 1) (am 2) 42 (upd (upd rp (f 3).toNatClampNeg p1) ((5 : Int32) + (f 3)).toNatClampNeg r_13), zM am (upd f_14 3 ((f_14 3) + (1 : Int32))), zA (kk 1) (am 3) 160 tp] H := hP
    have hD : va_D A [zA (kk 1) (am 2) 42 (upd (upd rp (f 3).toNatClampNeg p1) ((5 : Int32) + (f 3)).toNatClampNeg r_13), zM am (upd f_14 3 ((f_14 3) + (1 : Int32))), zA (kk 1) (am 3) 160 tp] := hD
    exact zr_v hx hb hr hlk hP hD hS ((upd f_14 3 ((f_14 3) + (1 : Int32))), (upd (upd rp (f 3).toNatClampNeg p1) ((5 : Int32) + (f 3)).toNatClampNeg r_13)) [1, 0, 2] rfl (by decide) dX7_readMore_43 h
def wpX7_readLine_95 (tp : Nat → Int32) (en : Nat → Int32) (le : Nat → Int32) (Q : (Nat → Int32) → (Nat → Int32) → Prop) (f : Nat → Int32) (rp : Nat → Int32) : Prop :=
  (wpX7_step f tp (fun f_11 => Q f_11 rp))
def wpX7_readLine_58 (tp : Nat → Int32) (en : Nat → Int32) (le : Nat → Int32) (Q : (Nat → Int32) → (Nat → Int32) → Prop) (f : Nat → Int32) (rp : Nat → Int32) (x1 : Int32) : Prop :=
  (wpX7_step f tp (fun f_5 => (((f_5 8) ≤ 0 → (wpX7_readMore f_5 rp tp x1 (fun f_8 rp_9 => (((f_8 8) = 0 → (((f_8 12) = (3 : Int32) → wpX7_readLine_95 tp en le Q  f_8 rp_9) ∧ (¬ (f_8 12) = (3 : Int32) → (wpX7_fails f_8 (2 : Int32) (fun f_15 => wpX7_readLine_95 tp en le Q  f_15 rp_9))))) ∧ (¬ (f_8 8) = 0 → wpX7_readLine_95 tp en le Q  f_8 rp_9))))) ∧ (¬ (f_5 8) ≤ 0 → Q f_5 rp))))
def wpX7_readLine_53 (tp : Nat → Int32) (en : Nat → Int32) (le : Nat → Int32) (Q : (Nat → Int32) → (Nat → Int32) → Prop) (f : Nat → Int32) (rp : Nat → Int32) (x1 : Int32) : Prop :=
  (wpX7_fails f (5 : Int32) (fun f_17 => wpX7_readLine_58 tp en le Q  f_17 rp x1))
def wpX7_readLine_36 (tp : Nat → Int32) (en : Nat → Int32) (le : Nat → Int32) (Q : (Nat → Int32) → (Nat → Int32) → Prop) (f : Nat → Int32) (rp : Nat → Int32) (x1 : Int32) : Prop :=
  ((x1 = (4 : Int32) → (((rp (40 : Int32).toNatClampNeg) = (10 : Int32) → wpX7_readLine_53 tp en le Q  f rp x1) ∧ (¬ (rp (40 : Int32).toNatClampNeg) = (10 : Int32) → wpX7_readLine_58 tp en le Q  f rp x1))) ∧ (¬ x1 = (4 : Int32) → wpX7_readLine_58 tp en le Q  f rp x1))
def wpX7_readLine (f : Nat → Int32) (rp : Nat → Int32) (tp : Nat → Int32) (en : Nat → Int32) (le : Nat → Int32) (Q : (Nat → Int32) → (Nat → Int32) → Prop) : Prop :=
  (wpX7_nameHere f tp en le (fun r_1 => (wpX7_in (r_1.toInt64) (0 : Int64) (4 : Int64) (fun r_2 => ((r_2 = 0 → (wpX7_fails f (2 : Int32) (fun f_23 => Q f_23 rp))) ∧ (¬ r_2 = 0 → (((3 : Int32) < r_1 → wpX7_readLine_36 tp en le Q  f rp r_1) ∧ (¬ (3 : Int32) < r_1 → (((f 3) = (5 : Int32) → wpX7_readLine_53 tp en le Q  f rp r_1) ∧ (¬ (f 3) = (5 : Int32) → wpX7_readLine_36 tp en le Q  f rp r_1))))))))))
set_option maxHeartbeats 4000000 in
theorem metX7_readLine (l : Launch) (D : va_G) (kk : Nat → ClassId) (am : Nat → Nat) (sz : Nat) (f : Nat → Int32) (rp : Nat → Int32) (tp : Nat → Int32) (en : Nat → Int32) (le : Nat → Int32) (Q : (Nat → Int32) → (Nat → Int32) → Prop) (h : wpX7_readLine f rp tp en le Q) : Met l yX7_readLine (ws_ yX7_readLine cX7_readLine 2 none) { frames := 5, cells := 0, slots := 0, locals := 113 } (va_Pc ([.ref (am 0)] : List Value) (zPc D kk [zM am f, zA (kk 1) (am 2) 42 rp, zA (kk 1) (am 3) 160 tp, zA (kk 1) (am 4) 6 en, zA (kk 1) (am 5) 26 le] sz)) (va_Qv (fun (u : (Nat → Int32) × (Nat → Int32)) => Q u.1 u.2) (zB D (va_A [zM am f, zA (kk 1) (am 2) 42 rp, zA (kk 1) (am 3) 160 tp, zA (kk 1) (am 4) 6 en, zA (kk 1) (am 5) 26 le] sz) (fun u : (Nat → Int32) × (Nat → Int32) => [zM am u.1, zA (kk 1) (am 2) 42 u.2, zA (kk 1) (am 3) 160 tp, zA (kk 1) (am 4) 6 en, zA (kk 1) (am 5) 26 le])) (va_A [zM am f, zA (kk 1) (am 2) 42 rp, zA (kk 1) (am 3) 160 tp, zA (kk 1) (am 4) 6 en, zA (kk 1) (am 5) 26 le] sz)) 0 0 (va_A [zM am f, zA (kk 1) (am 2) 42 rp, zA (kk 1) (am 3) 160 tp, zA (kk 1) (am 4) 6 en, zA (kk 1) (am 5) 26 le] sz) := by
  refine zMet (Qc := fun A => va_Qv (fun (u : (Nat → Int32) × (Nat → Int32)) => Q u.1 u.2) (zB D A (fun u : (Nat → Int32) × (Nat → Int32) => [zM am u.1, zA (kk 1) (am 2) 42 u.2, zA (kk 1) (am 3) 160 tp, zA (kk 1) (am 4) 6 en, zA (kk 1) (am 5) 26 le])) A) (by decide) (Nat.le_of_ble_eq_true rfl) ?_
  intro p e s m below meth c A X hP hD hS ls hl
  obtain ⟨hx, hb, hr, hml, hown, hts, hlk, hnm, hK, hN, hA⟩ := X
  have hown : s.vm.findClass "LoseLeagueModel" = some m.cls := hown
  have hl : lv_has ls 2 [(0, .ref (am 0))] := hl
  unfold wpX7_readLine at h
  refine lv_aload_n hx hb dX7_readLine_0 rfl (lv_at hl 0 rfl) ?_
  have hrc := va_recv hK hP (ci := 7) (q0 := 0) rfl rfl
  refine zc_i (wc := [zM am f, zA (kk 1) (am 3) 160 tp, zA (kk 1) (am 4) 6 en, zA (kk 1) (am 5) 26 le]) (wr := [zA (kk 1) (am 2) 42 rp]) (w1 := (fun u : Unit => [zM am f, zA (kk 1) (am 3) 160 tp, zA (kk 1) (am 4) 6 en, zA (kk 1) (am 5) 26 le])) (rest := []) [0, 2, 3, 4] [1] rfl rfl (by decide) (by decide) (by decide) hA hP hD hS (fun hP hD => va_runV (As := []) (rest := []) ⟨hx, hb, hml, hown, hts⟩ (metX7_nameHere l D kk am _ f tp en le _ h) (cwV 0 hts (lw_V q1064 q1066 qs38 q71 q1067) rfl rfl rfl pdX7_nameHere ⟨(Nat.le_of_ble_eq_true rfl), (Nat.le_of_ble_eq_true rfl)⟩) (zp_V hK hN hrc hP hD) rfl rfl hl.1 rfl (lv_room (Nat.le_of_ble_eq_true rfl)) dX7_readLine_1 ⟨(Nat.le_of_ble_eq_true rfl), (Nat.le_of_ble_eq_true rfl)⟩) (fun r_1 u H locs h hP hD hS => ?_)
  try dsimp only at h
  have hP : va_P D vwCl [zA (kk 1) (am 2) 42 rp, zM am f, zA (kk 1) (am 3) 160 tp, zA (kk 1) (am 4) 6 en, zA (kk 1) (am 5) 26 le] H := hP
  have hD : va_D A [zA (kk 1) (am 2) 42 rp, zM am f, zA (kk 1) (am 3) 160 tp, zA (kk 1) (am 4) 6 en, zA (kk 1) (am 5) 26 le] := hD
  refine lv_istore_n (lv' := [(1, .int r_1), (0, .ref (am 0))]) hx hb dX7_readLine_4 rfl hl (by decide) rfl (fun ls hl => ?_)
  refine lv_iload_n hx hb dX7_readLine_5 rfl (lv_at hl 0 rfl) ?_
  refine lv_i2l hx hb dX7_readLine_6 rfl ?_
  refine lv_lconst (v := (0 : Int64)) hx hb dX7_readLine_7 (by decide) ?_
  refine lv_ldc2 (v := (4 : Int64)) hx hb hown (hts _ q1068) dX7_readLine_8 ?_
  refine zc_i (wc := []) (wr := [zA (kk 1) (am 2) 42 rp, zM am f, zA (kk 1) (am 3) 160 tp, zA (kk 1) (am 4) 6 en, zA (kk 1) (am 5) 26 le]) (w1 := (fun u : Unit => [])) (rest := []) [] [0, 1, 2, 3, 4] rfl rfl (by decide) (by decide) (by decide) hA hP hD hS (fun hP hD => va_runS (As := [.long (r_1.toInt64), .long (0 : Int64), .long (4 : Int64)]) (rest := []) ⟨hx, hb, hml, hown, hts⟩ (metX7_in l D kk _ (r_1.toInt64) (0 : Int64) (4 : Int64) _ h) (va_cwS 3 hts (lw_S q1033 q1034 q71 q1035) rfl rfl rfl pdX7_in.2 ⟨(Nat.le_of_ble_eq_true rfl), (Nat.le_of_ble_eq_true rfl)⟩) (zp_S hK hN hP hD) rfl rfl hl.1 rfl (lv_room (Nat.le_of_ble_eq_true rfl)) dX7_readLine_11 ⟨(Nat.le_of_ble_eq_true rfl), (Nat.le_of_ble_eq_true rfl)⟩) (fun r_2 u H locs h hP hD hS => ?_)
  try dsimp only at h
  have hP : va_P D vwCl [zA (kk 1) (am 2) 42 rp, zM am f, zA (kk 1) (am 3) 160 tp, zA (kk 1) (am 4) 6 en, zA (kk 1) (am 5) 26 le] H := hP
  have hD : va_D A [zA (kk 1) (am 2) 42 rp, zM am f, zA (kk 1) (am 3) 160 tp, zA (kk 1) (am 4) 6 en, zA (kk 1) (am 5) 26 le] := hD
  refine lv_if_ne (tgt := 23) hx hb dX7_readLine_14 (by decide) (fun c_3 => ?_) (fun c_3 => ?_)
  · have h := h.2 c_3
    refine lv_iload_n hx hb dX7_readLine_23 rfl (lv_at hl 0 rfl) ?_
    refine lv_iconst (v := (3 : Int32)) hx hb dX7_readLine_24 (by decide) ?_
    have cut_58 : ∀ (f : Nat → Int32) (rp : Nat → Int32) (x1 : Int32), wpX7_readLine_58 tp en le Q  f rp x1 → ∀ (H : Heap) (locs : List Loc), va_P D vwCl [zM am f, zA (kk 1) (am 2) 42 rp, zA (kk 1) (am 3) 160 tp, zA (kk 1) (am 4) 6 en, zA (kk 1) (am 5) 26 le] H → va_D A [zM am f, zA (kk 1) (am 2) 42 rp, zA (kk 1) (am 3) 160 tp, zA (kk 1) (am 4) 6 en, zA (kk 1) (am 5) 26 le] → va_S A s.heap H locs → ∀ ls : Array Slot, lv_has ls 2 [(1, .int x1), (0, .ref (am 0))] → W p l e { frames := 5, cells := 0, slots := 0, locals := 113 } s m ([.ref (am 0)] : List Value).toArray below meth c H locs 0 0 (MQ below (va_Qv (fun (u : (Nat → Int32) × (Nat → Int32)) => Q u.1 u.2) (zB D A (fun u : (Nat → Int32) × (Nat → Int32) => [zM am u.1, zA (kk 1) (am 2) 42 u.2, zA (kk 1) (am 3) 160 tp, zA (kk 1) (am 4) 6 en, zA (kk 1) (am 5) 26 le])) A) ([.ref (am 0)] : List Value).toArray s 0 0 A) (F0 m 58 ls []) := by
      intro f rp x1 h H locs hP hD hS ls hl
      unfold wpX7_readLine_58 at h
      refine lv_aload_n hx hb dX7_readLine_58 rfl (lv_at hl 1 rfl) ?_
      have hrc := va_recv hK hP (ci := 7) (q0 := 0) rfl rfl
      refine zc_v (wc := [zM am f, zA (kk 1) (am 3) 160 tp]) (wr := [zA (kk 1) (am 2) 42 rp, zA (kk 1) (am 4) 6 en, zA (kk 1) (am 5) 26 le]) (w1 := (fun u : (Nat → Int32) => [zM am u, zA (kk 1) (am 3) 160 tp])) (rest := []) [0, 2] [1, 3, 4] rfl rfl (by decide) (by decide) (by decide) hA hP hD hS (fun hP hD => va_runV (As := []) (rest := []) ⟨hx, hb, hml, hown, hts⟩ (metX7_step l D kk am _ f tp _ h) (cwV 0 hts (lw_V q1044 q1046 qs34 q71 q1047) rfl rfl rfl pdX7_step ⟨(Nat.le_of_ble_eq_true rfl), (Nat.le_of_ble_eq_true rfl)⟩) (zp_V hK hN hrc hP hD) rfl rfl hl.1 rfl (lv_room (Nat.le_of_ble_eq_true rfl)) dX7_readLine_59 ⟨(Nat.le_of_ble_eq_true rfl), (Nat.le_of_ble_eq_true rfl)⟩) (fun u H locs h hP hD hS => ?_)
      obtain ⟨f_5, rfl⟩ : ∃ z, z = u := ⟨_, rfl⟩
      try dsimp only at h
      have hP : va_P D vwCl [zA (kk 1) (am 2) 42 rp, zA (kk 1) (am 4) 6 en, zA (kk 1) (am 5) 26 le, zM am f_5, zA (kk 1) (am 3) 160 tp] H := hP
      have hD : va_D A [zA (kk 1) (am 2) 42 rp, zA (kk 1) (am 4) 6 en, zA (kk 1) (am 5) 26 le, zM am f_5, zA (kk 1) (am 3) 160 tp] := hD
      refine lv_aload_n hx hb dX7_readLine_62 rfl (lv_at hl 1 rfl) ?_
      refine va_get (D := D) (ci := 7) (v := .int (f_5 8)) (C := RX7) (T := TX7) (N := 29) hx hb hts in_X7 hown hK hP 3 rfl rfl 8 (Nat.le_of_ble_eq_true rfl) (hts _ q947) (fun _ h9 => h9) rfl dX7_readLine_63 ?_
      refine lv_if_le (tgt := 70) hx hb dX7_readLine_66 (by decide) (fun c_6 => ?_) (fun c_6 => ?_)
      · have h := h.1 c_6
        refine lv_aload_n hx hb dX7_readLine_70 rfl (lv_at hl 1 rfl) ?_
        refine lv_iload_n hx hb dX7_readLine_71 rfl (lv_at hl 0 rfl) ?_
        have hrc := va_recv hK hP (ci := 7) (q0 := 3) rfl rfl
        refine zc_v (wc := [zM am f_5, zA (kk 1) (am 2) 42 rp, zA (kk 1) (am 3) 160 tp]) (wr := [zA (kk 1) (am 4) 6 en, zA (kk 1) (am 5) 26 le]) (w1 := (fun u : (Nat → Int32) × (Nat → Int32) => [zM am u.1, zA (kk 1) (am 2) 42 u.2, zA (kk 1) (am 3) 160 tp])) (rest := []) [3, 0, 4] [1, 2] rfl rfl (by decide) (by decide) (by decide) hA hP hD hS (fun hP hD => va_runV (As := [.int x1]) (rest := []) ⟨hx, hb, hml, hown, hts⟩ (metX7_readMore l D kk am _ f_5 rp tp x1 _ h) (cwV 1 hts (lw_V q1069 q1071 qs39 q71 q1072) rfl rfl rfl pdX7_readMore ⟨(Nat.le_of_ble_eq_true rfl), (Nat.le_of_ble_eq_true rfl)⟩) (zp_V hK hN hrc hP hD) rfl rfl hl.1 rfl (lv_room (Nat.le_of_ble_eq_true rfl)) dX7_readLine_72 ⟨(Nat.le_of_ble_eq_true rfl), (Nat.le_of_ble_eq_true rfl)⟩) (fun u H locs h hP hD hS => ?_)
        obtain ⟨f_8, rp_9⟩ := u
        try dsimp only at h
        have hP : va_P D vwCl [zA (kk 1) (am 4) 6 en, zA (kk 1) (am 5) 26 le, zM am f_8, zA (kk 1) (am 2) 42 rp_9, zA (kk 1) (am 3) 160 tp] H := hP
        have hD : va_D A [zA (kk 1) (am 4) 6 en, zA (kk 1) (am 5) 26 le, zM am f_8, zA (kk 1) (am 2) 42 rp_9, zA (kk 1) (am 3) 160 tp] := hD
        refine lv_aload_n hx hb dX7_readLine_75 rfl (lv_at hl 1 rfl) ?_
        refine va_get (D := D) (ci := 7) (v := .int (f_8 8)) (C := RX7) (T := TX7) (N := 29) hx hb hts in_X7 hown hK hP 2 rfl rfl 8 (Nat.le_of_ble_eq_true rfl) (hts _ q947) (fun _ h9 => h9) rfl dX7_readLine_76 ?_
        have cut_95 : ∀ (f : Nat → Int32) (rp : Nat → Int32), wpX7_readLine_95 tp en le Q  f rp → ∀ (H : Heap) (locs : List Loc), va_P D vwCl [zM am f, zA (kk 1) (am 2) 42 rp, zA (kk 1) (am 3) 160 tp, zA (kk 1) (am 4) 6 en, zA (kk 1) (am 5) 26 le] H → va_D A [zM am f, zA (kk 1) (am 2) 42 rp, zA (kk 1) (am 3) 160 tp, zA (kk 1) (am 4) 6 en, zA (kk 1) (am 5) 26 le] → va_S A s.heap H locs → ∀ ls : Array Slot, lv_has ls 2 [(0, .ref (am 0))] → W p l e { frames := 5, cells := 0, slots := 0, locals := 113 } s m ([.ref (am 0)] : List Value).toArray below meth c H locs 0 0 (MQ below (va_Qv (fun (u : (Nat → Int32) × (Nat → Int32)) => Q u.1 u.2) (zB D A (fun u : (Nat → Int32) × (Nat → Int32) => [zM am u.1, zA (kk 1) (am 2) 42 u.2, zA (kk 1) (am 3) 160 tp, zA (kk 1) (am 4) 6 en, zA (kk 1) (am 5) 26 le])) A) ([.ref (am 0)] : List Value).toArray s 0 0 A) (F0 m 95 ls []) := by
          intro f rp h H locs hP hD hS ls hl
          unfold wpX7_readLine_95 at h
          refine lv_aload_n hx hb dX7_readLine_95 rfl (lv_at hl 0 rfl) ?_
          have hrc := va_recv hK hP (ci := 7) (q0 := 0) rfl rfl
          refine zc_v (wc := [zM am f, zA (kk 1) (am 3) 160 tp]) (wr := [zA (kk 1) (am 2) 42 rp, zA (kk 1) (am 4) 6 en, zA (kk 1) (am 5) 26 le]) (w1 := (fun u : (Nat → Int32) => [zM am u, zA (kk 1) (am 3) 160 tp])) (rest := []) [0, 2] [1, 3, 4] rfl rfl (by decide) (by decide) (by decide) hA hP hD hS (fun hP hD => va_runV (As := []) (rest := []) ⟨hx, hb, hml, hown, hts⟩ (metX7_step l D kk am _ f tp _ h) (cwV 0 hts (lw_V q1044 q1046 qs34 q71 q1047) rfl rfl rfl pdX7_step ⟨(Nat.le_of_ble_eq_true rfl), (Nat.le_of_ble_eq_true rfl)⟩) (zp_V hK hN hrc hP hD) rfl rfl hl.1 rfl (lv_room (Nat.le_of_ble_eq_true rfl)) dX7_readLine_96 ⟨(Nat.le_of_ble_eq_true rfl), (Nat.le_of_ble_eq_true rfl)⟩) (fun u H locs h hP hD hS => ?_)
          obtain ⟨f_11, rfl⟩ : ∃ z, z = u := ⟨_, rfl⟩
          try dsimp only at h
          have hP : va_P D vwCl [zA (kk 1) (am 2) 42 rp, zA (kk 1) (am 4) 6 en, zA (kk 1) (am 5) 26 le, zM am f_11, zA (kk 1) (am 3) 160 tp] H := hP
          have hD : va_D A [zA (kk 1) (am 2) 42 rp, zA (kk 1) (am 4) 6 en, zA (kk 1) (am 5) 26 le, zM am f_11, zA (kk 1) (am 3) 160 tp] := hD
          exact zr_v hx hb hr hlk hP hD hS (f_11, rp) [3, 0, 4, 1, 2] rfl (by decide) dX7_readLine_99 h
        refine lv_if_ne (tgt := 95) hx hb dX7_readLine_79 (by decide) (fun c_12 => ?_) (fun c_12 => ?_)
        · have h := h.2 c_12
          exact cut_95 f_8 rp_9 h _ _ (hP.sub [2, 3, 4, 0, 1] rfl) (hD.sub [2, 3, 4, 0, 1] (by decide) rfl) hS _ (lv_sub hl [1] rfl)
        · have h := h.1 c_12
          refine lv_aload_n hx hb dX7_readLine_82 rfl (lv_at hl 1 rfl) ?_
          refine va_get (D := D) (ci := 7) (v := .int (f_8 12)) (C := RX7) (T := TX7) (N := 29) hx hb hts in_X7 hown hK hP 2 rfl rfl 12 (Nat.le_of_ble_eq_true rfl) (hts _ q951) (fun _ h9 => h9) rfl dX7_readLine_83 ?_
          refine lv_iconst (v := (3 : Int32)) hx hb dX7_readLine_86 (by decide) ?_
          refine lv_icmp_eq (tgt := 95) hx hb dX7_readLine_87 (by decide) (fun c_13 => ?_) (fun c_13 => ?_)
          · have h := h.1 c_13
            exact cut_95 f_8 rp_9 h _ _ (hP.sub [2, 3, 4, 0, 1] rfl) (hD.sub [2, 3, 4, 0, 1] (by decide) rfl) hS _ (lv_sub hl [1] rfl)
          · have h := h.2 c_13
            refine lv_aload_n hx hb dX7_readLine_90 rfl (lv_at hl 1 rfl) ?_
            refine lv_iconst (v := (2 : Int32)) hx hb dX7_readLine_91 (by decide) ?_
            have hrc := va_recv hK hP (ci := 7) (q0 := 2) rfl rfl
            refine zc_v (wc := [zM am f_8]) (wr := [zA (kk 1) (am 4) 6 en, zA (kk 1) (am 5) 26 le, zA (kk 1) (am 2) 42 rp_9, zA (kk 1) (am 3) 160 tp]) (w1 := (fun u : (Nat → Int32) => [zM am u])) (rest := []) [2] [0, 1, 3, 4] rfl rfl (by decide) (by decide) (by decide) hA hP hD hS (fun hP hD => va_runV (As := [.int (2 : Int32)]) (rest := []) ⟨hx, hb, hml, hown, hts⟩ (metX7_fails l D kk am _ f_8 (2 : Int32) _ h) (cwV 1 hts (lw_V q1056 q1058 qs36 q71 q1059) rfl rfl rfl pdX7_fails ⟨(Nat.le_of_ble_eq_true rfl), (Nat.le_of_ble_eq_true rfl)⟩) (zp_V hK hN hrc hP hD) rfl rfl hl.1 rfl (lv_room (Nat.le_of_ble_eq_true rfl)) dX7_readLine_92 ⟨(Nat.le_of_ble_eq_true rfl), (Nat.le_of_ble_eq_true rfl)⟩) (fun u H locs h hP hD hS => ?_)
            obtain ⟨f_15, rfl⟩ : ∃ z, z = u := ⟨_, rfl⟩
            try dsimp only at h
            have hP : va_P D vwCl [zA (kk 1) (am 4) 6 en, zA (kk 1) (am 5) 26 le, zA (kk 1) (am 2) 42 rp_9, zA (kk 1) (am 3) 160 tp, zM am f_15] H := hP
            have hD : va_D A [zA (kk 1) (am 4) 6 en, zA (kk 1) (am 5) 26 le, zA (kk 1) (am 2) 42 rp_9, zA (kk 1) (am 3) 160 tp, zM am f_15] := hD
            exact cut_95 f_15 rp_9 h _ _ (hP.sub [4, 2, 3, 0, 1] rfl) (hD.sub [4, 2, 3, 0, 1] (by decide) rfl) hS _ (lv_sub hl [1] rfl)
      · have h := h.2 c_6
        exact zr_v hx hb hr hlk hP hD hS (f_5, rp) [3, 0, 4, 1, 2] rfl (by decide) dX7_readLine_69 h
    have cut_53 : ∀ (f : Nat → Int32) (rp : Nat → Int32) (x1 : Int32), wpX7_readLine_53 tp en le Q  f rp x1 → ∀ (H : Heap) (locs : List Loc), va_P D vwCl [zM am f, zA (kk 1) (am 2) 42 rp, zA (kk 1) (am 3) 160 tp, zA (kk 1) (am 4) 6 en, zA (kk 1) (am 5) 26 le] H → va_D A [zM am f, zA (kk 1) (am 2) 42 rp, zA (kk 1) (am 3) 160 tp, zA (kk 1) (am 4) 6 en, zA (kk 1) (am 5) 26 le] → va_S A s.heap H locs → ∀ ls : Array Slot, lv_has ls 2 [(1, .int x1), (0, .ref (am 0))] → W p l e { frames := 5, cells := 0, slots := 0, locals := 113 } s m ([.ref (am 0)] : List Value).toArray below meth c H locs 0 0 (MQ below (va_Qv (fun (u : (Nat → Int32) × (Nat → Int32)) => Q u.1 u.2) (zB D A (fun u : (Nat → Int32) × (Nat → Int32) => [zM am u.1, zA (kk 1) (am 2) 42 u.2, zA (kk 1) (am 3) 160 tp, zA (kk 1) (am 4) 6 en, zA (kk 1) (am 5) 26 le])) A) ([.ref (am 0)] : List Value).toArray s 0 0 A) (F0 m 53 ls []) := by
      intro f rp x1 h H locs hP hD hS ls hl
      unfold wpX7_readLine_53 at h
      refine lv_aload_n hx hb dX7_readLine_53 rfl (lv_at hl 1 rfl) ?_
      refine lv_iconst (v := (5 : Int32)) hx hb dX7_readLine_54 (by decide) ?_
      have hrc := va_recv hK hP (ci := 7) (q0 := 0) rfl rfl
      refine zc_v (wc := [zM am f]) (wr := [zA (kk 1) (am 2) 42 rp, zA (kk 1) (am 3) 160 tp, zA (kk 1) (am 4) 6 en, zA (kk 1) (am 5) 26 le]) (w1 := (fun u : (Nat → Int32) => [zM am u])) (rest := []) [0] [1, 2, 3, 4] rfl rfl (by decide) (by decide) (by decide) hA hP hD hS (fun hP hD => va_runV (As := [.int (5 : Int32)]) (rest := []) ⟨hx, hb, hml, hown, hts⟩ (metX7_fails l D kk am _ f (5 : Int32) _ h) (cwV 1 hts (lw_V q1056 q1058 qs36 q71 q1059) rfl rfl rfl pdX7_fails ⟨(Nat.le_of_ble_eq_true rfl), (Nat.le_of_ble_eq_true rfl)⟩) (zp_V hK hN hrc hP hD) rfl rfl hl.1 rfl (lv_room (Nat.le_of_ble_eq_true rfl)) dX7_readLine_55 ⟨(Nat.le_of_ble_eq_true rfl), (Nat.le_of_ble_eq_true rfl)⟩) (fun u H locs h hP hD hS => ?_)
      obtain ⟨f_17, rfl⟩ : ∃ z, z = u := ⟨_, rfl⟩
      try dsimp only at h
      have hP : va_P D vwCl [zA (kk 1) (am 2) 42 rp, zA (kk 1) (am 3) 160 tp, zA (kk 1) (am 4) 6 en, zA (kk 1) (am 5) 26 le, zM am f_17] H := hP
      have hD : va_D A [zA (kk 1) (am 2) 42 rp, zA (kk 1) (am 3) 160 tp, zA (kk 1) (am 4) 6 en, zA (kk 1) (am 5) 26 le, zM am f_17] := hD
      exact cut_58 f_17 rp x1 h _ _ (hP.sub [4, 0, 1, 2, 3] rfl) (hD.sub [4, 0, 1, 2, 3] (by decide) rfl) hS _ (lv_sub hl [0, 1] rfl)
    have cut_36 : ∀ (f : Nat → Int32) (rp : Nat → Int32) (x1 : Int32), wpX7_readLine_36 tp en le Q  f rp x1 → ∀ (H : Heap) (locs : List Loc), va_P D vwCl [zM am f, zA (kk 1) (am 2) 42 rp, zA (kk 1) (am 3) 160 tp, zA (kk 1) (am 4) 6 en, zA (kk 1) (am 5) 26 le] H → va_D A [zM am f, zA (kk 1) (am 2) 42 rp, zA (kk 1) (am 3) 160 tp, zA (kk 1) (am 4) 6 en, zA (kk 1) (am 5) 26 le] → va_S A s.heap H locs → ∀ ls : Array Slot, lv_has ls 2 [(1, .int x1), (0, .ref (am 0))] → W p l e { frames := 5, cells := 0, slots := 0, locals := 113 } s m ([.ref (am 0)] : List Value).toArray below meth c H locs 0 0 (MQ below (va_Qv (fun (u : (Nat → Int32) × (Nat → Int32)) => Q u.1 u.2) (zB D A (fun u : (Nat → Int32) × (Nat → Int32) => [zM am u.1, zA (kk 1) (am 2) 42 u.2, zA (kk 1) (am 3) 160 tp, zA (kk 1) (am 4) 6 en, zA (kk 1) (am 5) 26 le])) A) ([.ref (am 0)] : List Value).toArray s 0 0 A) (F0 m 36 ls []) := by
      intro f rp x1 h H locs hP hD hS ls hl
      unfold wpX7_readLine_36 at h
      refine lv_iload_n hx hb dX7_readLine_36 rfl (lv_at hl 0 rfl) ?_
      refine lv_iconst (v := (4 : Int32)) hx hb dX7_readLine_37 (by decide) ?_
      refine lv_icmp_ne (tgt := 58) hx hb dX7_readLine_38 (by decide) (fun c_18 => ?_) (fun c_18 => ?_)
      · have h := h.2 c_18
        exact cut_58 f rp x1 h _ _ hP hD hS _ (lv_sub hl [0, 1] rfl)
      · have h := h.1 c_18
        refine lv_aload_n hx hb dX7_readLine_41 rfl (lv_at hl 1 rfl) ?_
        refine va_get (D := D) (ci := 7) (v := .ref (am 2)) (C := RX7) (T := TX7) (N := 29) hx hb hts in_X7 hown hK hP 0 rfl rfl 2 (Nat.le_of_ble_eq_true rfl) (hts _ q941) (fun _ h9 => h9) rfl dX7_readLine_42 ?_
        refine lv_bipush (v := (40 : Int32)) hx hb dX7_readLine_45 (by decide) ?_
        refine va_iald hx hb hK hP 1 1 rfl rfl (by unfold vp_in; decide) dX7_readLine_47 ?_
        refine lv_bipush (v := (10 : Int32)) hx hb dX7_readLine_48 (by decide) ?_
        refine lv_icmp_ne (tgt := 58) hx hb dX7_readLine_50 (by decide) (fun c_19 => ?_) (fun c_19 => ?_)
        · have h := h.2 c_19
          exact cut_58 f rp x1 h _ _ hP hD hS _ (lv_sub hl [0, 1] rfl)
        · have h := h.1 c_19
          exact cut_53 f rp x1 h _ _ hP hD hS _ (lv_sub hl [0, 1] rfl)
    refine lv_icmp_gt (tgt := 36) hx hb dX7_readLine_25 (by decide) (fun c_20 => ?_) (fun c_20 => ?_)
    · have h := h.1 c_20
      exact cut_36 f rp r_1 h _ _ (hP.sub [1, 0, 2, 3, 4] rfl) (hD.sub [1, 0, 2, 3, 4] (by decide) rfl) hS _ (lv_sub hl [0, 1] rfl)
    · have h := h.2 c_20
      refine lv_aload_n hx hb dX7_readLine_28 rfl (lv_at hl 1 rfl) ?_
      refine va_get (D := D) (ci := 7) (v := .int (f 3)) (C := RX7) (T := TX7) (N := 29) hx hb hts in_X7 hown hK hP 1 rfl rfl 3 (Nat.le_of_ble_eq_true rfl) (hts _ q942) (fun _ h9 => h9) rfl dX7_readLine_29 ?_
      refine lv_iconst (v := (5 : Int32)) hx hb dX7_readLine_32 (by decide) ?_
      refine lv_icmp_eq (tgt := 53) hx hb dX7_readLine_33 (by decide) (fun c_21 => ?_) (fun c_21 => ?_)
      · have h := h.1 c_21
        exact cut_53 f rp r_1 h _ _ (hP.sub [1, 0, 2, 3, 4] rfl) (hD.sub [1, 0, 2, 3, 4] (by decide) rfl) hS _ (lv_sub hl [0, 1] rfl)
      · have h := h.2 c_21
        exact cut_36 f rp r_1 h _ _ (hP.sub [1, 0, 2, 3, 4] rfl) (hD.sub [1, 0, 2, 3, 4] (by decide) rfl) hS _ (lv_sub hl [0, 1] rfl)
  · have h := h.1 c_3
    refine lv_aload_n hx hb dX7_readLine_17 rfl (lv_at hl 1 rfl) ?_
    refine lv_iconst (v := (2 : Int32)) hx hb dX7_readLine_18 (by decide) ?_
    have hrc := va_recv hK hP (ci := 7) (q0 := 1) rfl rfl
    refine zc_v (wc := [zM am f]) (wr := [zA (kk 1) (am 2) 42 rp, zA (kk 1) (am 3) 160 tp, zA (kk 1) (am 4) 6 en, zA (kk 1) (am 5) 26 le]) (w1 := (fun u : (Nat → Int32) => [zM am u])) (rest := []) [1] [0, 2, 3, 4] rfl rfl (by decide) (by decide) (by decide) hA hP hD hS (fun hP hD => va_runV (As := [.int (2 : Int32)]) (rest := []) ⟨hx, hb, hml, hown, hts⟩ (metX7_fails l D kk am _ f (2 : Int32) _ h) (cwV 1 hts (lw_V q1056 q1058 qs36 q71 q1059) rfl rfl rfl pdX7_fails ⟨(Nat.le_of_ble_eq_true rfl), (Nat.le_of_ble_eq_true rfl)⟩) (zp_V hK hN hrc hP hD) rfl rfl hl.1 rfl (lv_room (Nat.le_of_ble_eq_true rfl)) dX7_readLine_19 ⟨(Nat.le_of_ble_eq_true rfl), (Nat.le_of_ble_eq_true rfl)⟩) (fun u H locs h hP hD hS => ?_)
    obtain ⟨f_23, rfl⟩ : ∃ z, z = u := ⟨_, rfl⟩
    try dsimp only at h
    have hP : va_P D vwCl [zA (kk 1) (am 2) 42 rp, zA (kk 1) (am 3) 160 tp, zA (kk 1) (am 4) 6 en, zA (kk 1) (am 5) 26 le, zM am f_23] H := hP
    have hD : va_D A [zA (kk 1) (am 2) 42 rp, zA (kk 1) (am 3) 160 tp, zA (kk 1) (am 4) 6 en, zA (kk 1) (am 5) 26 le, zM am f_23] := hD
    exact zr_v hx hb hr hlk hP hD hS (f_23, rp) [4, 0, 1, 2, 3] rfl (by decide) dX7_readLine_22 h
def wbX7_text_125 (tp : Nat → Int32) (en : Nat → Int32) (le : Nat → Int32) (Q : Int32 → (Nat → Int32) → (Nat → Int32) → (Nat → Int32) → (Nat → Int32) → Prop) (k24 : (Nat → Int32) → (Nat → Int32) → (Nat → Int32) → (Nat → Int32) → Int32 → Int32 → Prop) (k47 : (Nat → Int32) → (Nat → Int32) → (Nat → Int32) → (Nat → Int32) → Int32 → Prop) (k125 : (Nat → Int32) → (Nat → Int32) → (Nat → Int32) → (Nat → Int32) → Int32 → Int32 → Prop) (f : Nat → Int32) (st : Nat → Int32) (rp : Nat → Int32) (ik : Nat → Int32) (x1 : Int32) (x2 : Int32) : Prop :=
  (((42 : Int32) ≤ x2 → Q x1 (upd (upd f 1 (f 3)) 22 (0 : Int32)) st rp (upd (upd ik (0 : Int32).toNatClampNeg (vp_nar .boolean (0 : Int32))) (1 : Int32).toNatClampNeg (vp_nar .boolean (0 : Int32)))) ∧ (¬ (42 : Int32) ≤ x2 → (vp_in x2 42 ∧ (vp_in x2 252 ∧ k125 f (upd st x2.toNatClampNeg (rp x2.toNatClampNeg)) rp ik x1 (x2 + 1)))))
def wpX7_text_125 (tp : Nat → Int32) (en : Nat → Int32) (le : Nat → Int32) (Q : Int32 → (Nat → Int32) → (Nat → Int32) → (Nat → Int32) → (Nat → Int32) → Prop) (k24 : (Nat → Int32) → (Nat → Int32) → (Nat → Int32) → (Nat → Int32) → Int32 → Int32 → Prop) (k47 : (Nat → Int32) → (Nat → Int32) → (Nat → Int32) → (Nat → Int32) → Int32 → Prop) (n : Nat) : (Nat → Int32) → (Nat → Int32) → (Nat → Int32) → (Nat → Int32) → Int32 → Int32 → Prop :=
  Nat.rec (motive := fun _ => (Nat → Int32) → (Nat → Int32) → (Nat → Int32) → (Nat → Int32) → Int32 → Int32 → Prop) (fun _ _ _ _ _ _ => False) (fun _ k => wbX7_text_125 tp en le Q k24 k47 k) n
def wpX7_text_95 (tp : Nat → Int32) (en : Nat → Int32) (le : Nat → Int32) (Q : Int32 → (Nat → Int32) → (Nat → Int32) → (Nat → Int32) → (Nat → Int32) → Prop) (k24 : (Nat → Int32) → (Nat → Int32) → (Nat → Int32) → (Nat → Int32) → Int32 → Int32 → Prop) (k47 : (Nat → Int32) → (Nat → Int32) → (Nat → Int32) → (Nat → Int32) → Int32 → Prop) (f : Nat → Int32) (st : Nat → Int32) (rp : Nat → Int32) (ik : Nat → Int32) (x1 : Int32) : Prop :=
  (((f 8) ≤ 0 → (∃ n : Nat, wpX7_text_125 tp en le Q k24 k47 n (upd (upd f 6 (0 : Int32)) 7 (f 8)) st rp ik x1 (0 : Int32))) ∧ (¬ (f 8) ≤ 0 → Q ((-10 : Int32) - (f 9)) (upd (upd f 6 (0 : Int32)) 7 (f 8)) st rp ik))
def wpX7_text_71 (tp : Nat → Int32) (en : Nat → Int32) (le : Nat → Int32) (Q : Int32 → (Nat → Int32) → (Nat → Int32) → (Nat → Int32) → (Nat → Int32) → Prop) (k24 : (Nat → Int32) → (Nat → Int32) → (Nat → Int32) → (Nat → Int32) → Int32 → Int32 → Prop) (k47 : (Nat → Int32) → (Nat → Int32) → (Nat → Int32) → (Nat → Int32) → Int32 → Prop) (f : Nat → Int32) (st : Nat → Int32) (rp : Nat → Int32) (ik : Nat → Int32) (x1 : Int32) : Prop :=
  (((f 8) = 0 → (((f 4) < (f 3) → wpX7_text_95 tp en le Q k24 k47 f st rp ik x1) ∧ (¬ (f 4) < (f 3) → (wpX7_fails f (6 : Int32) (fun f_7 => wpX7_text_95 tp en le Q k24 k47 f_7 st rp ik x1))))) ∧ (¬ (f 8) = 0 → wpX7_text_95 tp en le Q k24 k47 f st rp ik x1))
def wbX7_text_47 (tp : Nat → Int32) (en : Nat → Int32) (le : Nat → Int32) (Q : Int32 → (Nat → Int32) → (Nat → Int32) → (Nat → Int32) → (Nat → Int32) → Prop) (k24 : (Nat → Int32) → (Nat → Int32) → (Nat → Int32) → (Nat → Int32) → Int32 → Int32 → Prop) (k47 : (Nat → Int32) → (Nat → Int32) → (Nat → Int32) → (Nat → Int32) → Int32 → Prop) (f : Nat → Int32) (st : Nat → Int32) (rp : Nat → Int32) (ik : Nat → Int32) (x1 : Int32) : Prop :=
  (((f 8) = 0 → (((f 12) = 0 → wpX7_text_71 tp en le Q k24 k47 f st rp ik x1) ∧ (¬ (f 12) = 0 → (wpX7_readLine f rp tp en le (fun f_11 rp_12 => k47 f_11 st rp_12 ik (x1 + 1)))))) ∧ (¬ (f 8) = 0 → wpX7_text_71 tp en le Q k24 k47 f st rp ik x1))
def wpX7_text_47 (tp : Nat → Int32) (en : Nat → Int32) (le : Nat → Int32) (Q : Int32 → (Nat → Int32) → (Nat → Int32) → (Nat → Int32) → (Nat → Int32) → Prop) (k24 : (Nat → Int32) → (Nat → Int32) → (Nat → Int32) → (Nat → Int32) → Int32 → Int32 → Prop) (n : Nat) : (Nat → Int32) → (Nat → Int32) → (Nat → Int32) → (Nat → Int32) → Int32 → Prop :=
  Nat.rec (motive := fun _ => (Nat → Int32) → (Nat → Int32) → (Nat → Int32) → (Nat → Int32) → Int32 → Prop) (fun _ _ _ _ _ => False) (fun _ k => wbX7_text_47 tp en le Q k24 k) n
def wbX7_text_24 (tp : Nat → Int32) (en : Nat → Int32) (le : Nat → Int32) (Q : Int32 → (Nat → Int32) → (Nat → Int32) → (Nat → Int32) → (Nat → Int32) → Prop) (k24 : (Nat → Int32) → (Nat → Int32) → (Nat → Int32) → (Nat → Int32) → Int32 → Int32 → Prop) (f : Nat → Int32) (st : Nat → Int32) (rp : Nat → Int32) (ik : Nat → Int32) (x1 : Int32) (x2 : Int32) : Prop :=
  (((42 : Int32) ≤ x2 → (wpX7_step f tp (fun f_14 => (∃ n : Nat, wpX7_text_47 tp en le Q k24 n f_14 st rp ik x1)))) ∧ (¬ (42 : Int32) ≤ x2 → (vp_in x2 42 ∧ k24 f st (upd rp x2.toNatClampNeg (0 : Int32)) ik x1 (x2 + 1))))
def wpX7_text_24 (tp : Nat → Int32) (en : Nat → Int32) (le : Nat → Int32) (Q : Int32 → (Nat → Int32) → (Nat → Int32) → (Nat → Int32) → (Nat → Int32) → Prop) (n : Nat) : (Nat → Int32) → (Nat → Int32) → (Nat → Int32) → (Nat → Int32) → Int32 → Int32 → Prop :=
  Nat.rec (motive := fun _ => (Nat → Int32) → (Nat → Int32) → (Nat → Int32) → (Nat → Int32) → Int32 → Int32 → Prop) (fun _ _ _ _ _ _ => False) (fun _ k => wbX7_text_24 tp en le Q  k) n
def wpX7_text (f : Nat → Int32) (st : Nat → Int32) (rp : Nat → Int32) (tp : Nat → Int32) (en : Nat → Int32) (le : Nat → Int32) (ik : Nat → Int32) (Q : Int32 → (Nat → Int32) → (Nat → Int32) → (Nat → Int32) → (Nat → Int32) → Prop) : Prop :=
  (∃ n : Nat, wpX7_text_24 tp en le Q  n (upd (upd (upd (upd f 8 (0 : Int32)) 10 (0 : Int32)) 3 (0 : Int32)) 4 (-1 : Int32)) st rp ik (0 : Int32) (0 : Int32))
set_option maxHeartbeats 4000000 in
theorem metX7_text (l : Launch) (D : va_G) (kk : Nat → ClassId) (am : Nat → Nat) (sz : Nat) (f : Nat → Int32) (st : Nat → Int32) (rp : Nat → Int32) (tp : Nat → Int32) (en : Nat → Int32) (le : Nat → Int32) (ik : Nat → Int32) (Q : Int32 → (Nat → Int32) → (Nat → Int32) → (Nat → Int32) → (Nat → Int32) → Prop) (h : wpX7_text f st rp tp en le ik Q) : Met l yX7_text (ws_ yX7_text cX7_text 3 (some .int)) { frames := 6, cells := 0, slots := 0, locals := 134 } (va_Pc ([.ref (am 0)] : List Value) (zPc D kk [zM am f, zA (kk 1) (am 1) 252 st, zA (kk 1) (am 2) 42 rp, zA (kk 1) (am 3) 160 tp, zA (kk 1) (am 4) 6 en, zA (kk 1) (am 5) 26 le, zA (kk 2) (am 9) 2 ik] sz)) (va_Qi (fun (r : Int32) (u : (Nat → Int32) × (Nat → Int32) × (Nat → Int32) × (Nat → Int32)) => Q r u.1 u.2.1 u.2.2.1 u.2.2.2) (zB D (va_A [zM am f, zA (kk 1) (am 1) 252 st, zA (kk 1) (am 2) 42 rp, zA (kk 1) (am 3) 160 tp, zA (kk 1) (am 4) 6 en, zA (kk 1) (am 5) 26 le, zA (kk 2) (am 9) 2 ik] sz) (fun u : (Nat → Int32) × (Nat → Int32) × (Nat → Int32) × (Nat → Int32) => [zM am u.1, zA (kk 1) (am 1) 252 u.2.1, zA (kk 1) (am 2) 42 u.2.2.1, zA (kk 1) (am 3) 160 tp, zA (kk 1) (am 4) 6 en, zA (kk 1) (am 5) 26 le, zA (kk 2) (am 9) 2 u.2.2.2])) (va_A [zM am f, zA (kk 1) (am 1) 252 st, zA (kk 1) (am 2) 42 rp, zA (kk 1) (am 3) 160 tp, zA (kk 1) (am 4) 6 en, zA (kk 1) (am 5) 26 le, zA (kk 2) (am 9) 2 ik] sz)) 0 0 (va_A [zM am f, zA (kk 1) (am 1) 252 st, zA (kk 1) (am 2) 42 rp, zA (kk 1) (am 3) 160 tp, zA (kk 1) (am 4) 6 en, zA (kk 1) (am 5) 26 le, zA (kk 2) (am 9) 2 ik] sz) := by
  refine zMet (Qc := fun A => va_Qi (fun (r : Int32) (u : (Nat → Int32) × (Nat → Int32) × (Nat → Int32) × (Nat → Int32)) => Q r u.1 u.2.1 u.2.2.1 u.2.2.2) (zB D A (fun u : (Nat → Int32) × (Nat → Int32) × (Nat → Int32) × (Nat → Int32) => [zM am u.1, zA (kk 1) (am 1) 252 u.2.1, zA (kk 1) (am 2) 42 u.2.2.1, zA (kk 1) (am 3) 160 tp, zA (kk 1) (am 4) 6 en, zA (kk 1) (am 5) 26 le, zA (kk 2) (am 9) 2 u.2.2.2])) A) (by decide) (Nat.le_of_ble_eq_true rfl) ?_
  intro p e s m below meth c A X hP hD hS ls hl
  obtain ⟨hx, hb, hr, hml, hown, hts, hlk, hnm, hK, hN, hA⟩ := X
  have hown : s.vm.findClass "LoseLeagueModel" = some m.cls := hown
  have hl : lv_has ls 3 [(0, .ref (am 0))] := hl
  unfold wpX7_text at h
  refine lv_aload_n hx hb dX7_text_0 rfl (lv_at hl 0 rfl) ?_
  refine lv_iconst (v := (0 : Int32)) hx hb dX7_text_1 (by decide) ?_
  refine va_put (D := D) (ci := 7) (v := .int (0 : Int32)) (C := RX7) (T := TX7) (N := 29) hx hb hts in_X7 tyX7 tyX7_ok nmX7 hown hK hP hD hS 0 rfl rfl 8 (Nat.le_of_ble_eq_true rfl) (hts _ q947) (fun _ h9 => h9) rfl (tyX7_ok 8 (Nat.le_of_ble_eq_true rfl)) rfl rfl (Nat.le_of_ble_eq_true rfl) dX7_text_2 (fun H locs hP hD hS => ?_)
  have hP : va_P D vwCl [zM am (upd f 8 (0 : Int32)), zA (kk 1) (am 1) 252 st, zA (kk 1) (am 2) 42 rp, zA (kk 1) (am 3) 160 tp, zA (kk 1) (am 4) 6 en, zA (kk 1) (am 5) 26 le, zA (kk 2) (am 9) 2 ik] H := hP
  have hD : va_D A [zM am (upd f 8 (0 : Int32)), zA (kk 1) (am 1) 252 st, zA (kk 1) (am 2) 42 rp, zA (kk 1) (am 3) 160 tp, zA (kk 1) (am 4) 6 en, zA (kk 1) (am 5) 26 le, zA (kk 2) (am 9) 2 ik] := hD
  refine lv_aload_n hx hb dX7_text_5 rfl (lv_at hl 0 rfl) ?_
  refine lv_iconst (v := (0 : Int32)) hx hb dX7_text_6 (by decide) ?_
  refine va_put (D := D) (ci := 7) (v := .int (0 : Int32)) (C := RX7) (T := TX7) (N := 29) hx hb hts in_X7 tyX7 tyX7_ok nmX7 hown hK hP hD hS 0 rfl rfl 10 (Nat.le_of_ble_eq_true rfl) (hts _ q949) (fun _ h9 => h9) rfl (tyX7_ok 10 (Nat.le_of_ble_eq_true rfl)) rfl rfl (Nat.le_of_ble_eq_true rfl) dX7_text_7 (fun H locs hP hD hS => ?_)
  have hP : va_P D vwCl [zM am (upd (upd f 8 (0 : Int32)) 10 (0 : Int32)), zA (kk 1) (am 1) 252 st, zA (kk 1) (am 2) 42 rp, zA (kk 1) (am 3) 160 tp, zA (kk 1) (am 4) 6 en, zA (kk 1) (am 5) 26 le, zA (kk 2) (am 9) 2 ik] H := hP
  have hD : va_D A [zM am (upd (upd f 8 (0 : Int32)) 10 (0 : Int32)), zA (kk 1) (am 1) 252 st, zA (kk 1) (am 2) 42 rp, zA (kk 1) (am 3) 160 tp, zA (kk 1) (am 4) 6 en, zA (kk 1) (am 5) 26 le, zA (kk 2) (am 9) 2 ik] := hD
  refine lv_aload_n hx hb dX7_text_10 rfl (lv_at hl 0 rfl) ?_
  refine lv_iconst (v := (0 : Int32)) hx hb dX7_text_11 (by decide) ?_
  refine va_put (D := D) (ci := 7) (v := .int (0 : Int32)) (C := RX7) (T := TX7) (N := 29) hx hb hts in_X7 tyX7 tyX7_ok nmX7 hown hK hP hD hS 0 rfl rfl 3 (Nat.le_of_ble_eq_true rfl) (hts _ q942) (fun _ h9 => h9) rfl (tyX7_ok 3 (Nat.le_of_ble_eq_true rfl)) rfl rfl (Nat.le_of_ble_eq_true rfl) dX7_text_12 (fun H locs hP hD hS => ?_)
  have hP : va_P D vwCl [zM am (upd (upd (upd f 8 (0 : Int32)) 10 (0 : Int32)) 3 (0 : Int32)), zA (kk 1) (am 1) 252 st, zA (kk 1) (am 2) 42 rp, zA (kk 1) (am 3) 160 tp, zA (kk 1) (am 4) 6 en, zA (kk 1) (am 5) 26 le, zA (kk 2) (am 9) 2 ik] H := hP
  have hD : va_D A [zM am (upd (upd (upd f 8 (0 : Int32)) 10 (0 : Int32)) 3 (0 : Int32)), zA (kk 1) (am 1) 252 st, zA (kk 1) (am 2) 42 rp, zA (kk 1) (am 3) 160 tp, zA (kk 1) (am 4) 6 en, zA (kk 1) (am 5) 26 le, zA (kk 2) (am 9) 2 ik] := hD
  refine lv_aload_n hx hb dX7_text_15 rfl (lv_at hl 0 rfl) ?_
  refine lv_iconst (v := (-1 : Int32)) hx hb dX7_text_16 (by decide) ?_
  refine va_put (D := D) (ci := 7) (v := .int (-1 : Int32)) (C := RX7) (T := TX7) (N := 29) hx hb hts in_X7 tyX7 tyX7_ok nmX7 hown hK hP hD hS 0 rfl rfl 4 (Nat.le_of_ble_eq_true rfl) (hts _ q943) (fun _ h9 => h9) rfl (tyX7_ok 4 (Nat.le_of_ble_eq_true rfl)) rfl rfl (Nat.le_of_ble_eq_true rfl) dX7_text_17 (fun H locs hP hD hS => ?_)
  have hP : va_P D vwCl [zM am (upd (upd (upd (upd f 8 (0 : Int32)) 10 (0 : Int32)) 3 (0 : Int32)) 4 (-1 : Int32)), zA (kk 1) (am 1) 252 st, zA (kk 1) (am 2) 42 rp, zA (kk 1) (am 3) 160 tp, zA (kk 1) (am 4) 6 en, zA (kk 1) (am 5) 26 le, zA (kk 2) (am 9) 2 ik] H := hP
  have hD : va_D A [zM am (upd (upd (upd (upd f 8 (0 : Int32)) 10 (0 : Int32)) 3 (0 : Int32)) 4 (-1 : Int32)), zA (kk 1) (am 1) 252 st, zA (kk 1) (am 2) 42 rp, zA (kk 1) (am 3) 160 tp, zA (kk 1) (am 4) 6 en, zA (kk 1) (am 5) 26 le, zA (kk 2) (am 9) 2 ik] := hD
  refine lv_iconst (v := (0 : Int32)) hx hb dX7_text_20 (by decide) ?_
  refine lv_istore_n (lv' := [(1, .int (0 : Int32)), (0, .ref (am 0))]) hx hb dX7_text_21 rfl hl (by decide) rfl (fun ls hl => ?_)
  refine lv_iconst (v := (0 : Int32)) hx hb dX7_text_22 (by decide) ?_
  have cut_24 : ∀ (nl24 : Nat) (f : Nat → Int32) (st : Nat → Int32) (rp : Nat → Int32) (ik : Nat → Int32) (x1 : Int32) (x2 : Int32), wpX7_text_24 tp en le Q  nl24 f st rp ik x1 x2 → ∀ (H : Heap) (locs : List Loc), va_P D vwCl [zM am f, zA (kk 1) (am 1) 252 st, zA (kk 1) (am 2) 42 rp, zA (kk 1) (am 3) 160 tp, zA (kk 1) (am 4) 6 en, zA (kk 1) (am 5) 26 le, zA (kk 2) (am 9) 2 ik] H → va_D A [zM am f, zA (kk 1) (am 1) 252 st, zA (kk 1) (am 2) 42 rp, zA (kk 1) (am 3) 160 tp, zA (kk 1) (am 4) 6 en, zA (kk 1) (am 5) 26 le, zA (kk 2) (am 9) 2 ik] → va_S A s.heap H locs → ∀ ls : Array Slot, lv_has ls 3 [(1, .int x1), (2, .int x2), (0, .ref (am 0))] → W p l e { frames := 6, cells := 0, slots := 0, locals := 134 } s m ([.ref (am 0)] : List Value).toArray below meth c H locs 0 0 (MQ below (va_Qi (fun (r : Int32) (u : (Nat → Int32) × (Nat → Int32) × (Nat → Int32) × (Nat → Int32)) => Q r u.1 u.2.1 u.2.2.1 u.2.2.2) (zB D A (fun u : (Nat → Int32) × (Nat → Int32) × (Nat → Int32) × (Nat → Int32) => [zM am u.1, zA (kk 1) (am 1) 252 u.2.1, zA (kk 1) (am 2) 42 u.2.2.1, zA (kk 1) (am 3) 160 tp, zA (kk 1) (am 4) 6 en, zA (kk 1) (am 5) 26 le, zA (kk 2) (am 9) 2 u.2.2.2])) A) ([.ref (am 0)] : List Value).toArray s 0 0 A) (F0 m 24 ls []) := by
    intro nl24
    induction nl24 with
    | zero => intro f st rp ik x1 x2 h; exact absurd h id
    | succ nl24 ih_24 =>
      intro f st rp ik x1 x2 h H locs hP hD hS ls hl
      have h : wbX7_text_24 tp en le Q  (wpX7_text_24 tp en le Q  nl24) f st rp ik x1 x2 := h
      unfold wbX7_text_24 at h
      refine lv_iload_n hx hb dX7_text_24 rfl (lv_at hl 1 rfl) ?_
      refine lv_bipush (v := (42 : Int32)) hx hb dX7_text_25 (by decide) ?_
      refine lv_icmp_ge (tgt := 43) hx hb dX7_text_27 (by decide) (fun c_1 => ?_) (fun c_1 => ?_)
      · have h := h.1 c_1
        refine lv_aload_n hx hb dX7_text_43 rfl (lv_at hl 2 rfl) ?_
        have cut_47 : ∀ (nl47 : Nat) (f : Nat → Int32) (st : Nat → Int32) (rp : Nat → Int32) (ik : Nat → Int32) (x1 : Int32), wpX7_text_47 tp en le Q (wpX7_text_24 tp en le Q  nl24) nl47 f st rp ik x1 → ∀ (H : Heap) (locs : List Loc), va_P D vwCl [zM am f, zA (kk 1) (am 1) 252 st, zA (kk 1) (am 2) 42 rp, zA (kk 1) (am 3) 160 tp, zA (kk 1) (am 4) 6 en, zA (kk 1) (am 5) 26 le, zA (kk 2) (am 9) 2 ik] H → va_D A [zM am f, zA (kk 1) (am 1) 252 st, zA (kk 1) (am 2) 42 rp, zA (kk 1) (am 3) 160 tp, zA (kk 1) (am 4) 6 en, zA (kk 1) (am 5) 26 le, zA (kk 2) (am 9) 2 ik] → va_S A s.heap H locs → ∀ ls : Array Slot, lv_has ls 3 [(1, .int x1), (0, .ref (am 0))] → W p l e { frames := 6, cells := 0, slots := 0, locals := 134 } s m ([.ref (am 0)] : List Value).toArray below meth c H locs 0 0 (MQ below (va_Qi (fun (r : Int32) (u : (Nat → Int32) × (Nat → Int32) × (Nat → Int32) × (Nat → Int32)) => Q r u.1 u.2.1 u.2.2.1 u.2.2.2) (zB D A (fun u : (Nat → Int32) × (Nat → Int32) × (Nat → Int32) × (Nat → Int32) => [zM am u.1, zA (kk 1) (am 1) 252 u.2.1, zA (kk 1) (am 2) 42 u.2.2.1, zA (kk 1) (am 3) 160 tp, zA (kk 1) (am 4) 6 en, zA (kk 1) (am 5) 26 le, zA (kk 2) (am 9) 2 u.2.2.2])) A) ([.ref (am 0)] : List Value).toArray s 0 0 A) (F0 m 47 ls []) := by
          intro nl47
          induction nl47 with
          | zero => intro f st rp ik x1 h; exact absurd h id
          | succ nl47 ih_47 =>
            intro f st rp ik x1 h H locs hP hD hS ls hl
            have h : wbX7_text_47 tp en le Q (wpX7_text_24 tp en le Q  nl24) (wpX7_text_47 tp en le Q (wpX7_text_24 tp en le Q  nl24) nl47) f st rp ik x1 := h
            unfold wbX7_text_47 at h
            refine lv_aload_n hx hb dX7_text_47 rfl (lv_at hl 1 rfl) ?_
            refine va_get (D := D) (ci := 7) (v := .int (f 8)) (C := RX7) (T := TX7) (N := 29) hx hb hts in_X7 hown hK hP 0 rfl rfl 8 (Nat.le_of_ble_eq_true rfl) (hts _ q947) (fun _ h9 => h9) rfl dX7_text_48 ?_
            have cut_71 : ∀ (f : Nat → Int32) (st : Nat → Int32) (rp : Nat → Int32) (ik : Nat → Int32) (x1 : Int32), wpX7_text_71 tp en le Q (wpX7_text_24 tp en le Q  nl24) (wpX7_text_47 tp en le Q (wpX7_text_24 tp en le Q  nl24) nl47) f st rp ik x1 → ∀ (H : Heap) (locs : List Loc), va_P D vwCl [zM am f, zA (kk 1) (am 1) 252 st, zA (kk 1) (am 2) 42 rp, zA (kk 1) (am 3) 160 tp, zA (kk 1) (am 4) 6 en, zA (kk 1) (am 5) 26 le, zA (kk 2) (am 9) 2 ik] H → va_D A [zM am f, zA (kk 1) (am 1) 252 st, zA (kk 1) (am 2) 42 rp, zA (kk 1) (am 3) 160 tp, zA (kk 1) (am 4) 6 en, zA (kk 1) (am 5) 26 le, zA (kk 2) (am 9) 2 ik] → va_S A s.heap H locs → ∀ ls : Array Slot, lv_has ls 3 [(1, .int x1), (0, .ref (am 0))] → W p l e { frames := 6, cells := 0, slots := 0, locals := 134 } s m ([.ref (am 0)] : List Value).toArray below meth c H locs 0 0 (MQ below (va_Qi (fun (r : Int32) (u : (Nat → Int32) × (Nat → Int32) × (Nat → Int32) × (Nat → Int32)) => Q r u.1 u.2.1 u.2.2.1 u.2.2.2) (zB D A (fun u : (Nat → Int32) × (Nat → Int32) × (Nat → Int32) × (Nat → Int32) => [zM am u.1, zA (kk 1) (am 1) 252 u.2.1, zA (kk 1) (am 2) 42 u.2.2.1, zA (kk 1) (am 3) 160 tp, zA (kk 1) (am 4) 6 en, zA (kk 1) (am 5) 26 le, zA (kk 2) (am 9) 2 u.2.2.2])) A) ([.ref (am 0)] : List Value).toArray s 0 0 A) (F0 m 71 ls []) := by
              intro f st rp ik x1 h H locs hP hD hS ls hl
              unfold wpX7_text_71 at h
              refine lv_aload_n hx hb dX7_text_71 rfl (lv_at hl 1 rfl) ?_
              refine va_get (D := D) (ci := 7) (v := .int (f 8)) (C := RX7) (T := TX7) (N := 29) hx hb hts in_X7 hown hK hP 0 rfl rfl 8 (Nat.le_of_ble_eq_true rfl) (hts _ q947) (fun _ h9 => h9) rfl dX7_text_72 ?_
              have cut_95 : ∀ (f : Nat → Int32) (st : Nat → Int32) (rp : Nat → Int32) (ik : Nat → Int32) (x1 : Int32), wpX7_text_95 tp en le Q (wpX7_text_24 tp en le Q  nl24) (wpX7_text_47 tp en le Q (wpX7_text_24 tp en le Q  nl24) nl47) f st rp ik x1 → ∀ (H : Heap) (locs : List Loc), va_P D vwCl [zM am f, zA (kk 1) (am 1) 252 st, zA (kk 1) (am 2) 42 rp, zA (kk 1) (am 3) 160 tp, zA (kk 1) (am 4) 6 en, zA (kk 1) (am 5) 26 le, zA (kk 2) (am 9) 2 ik] H → va_D A [zM am f, zA (kk 1) (am 1) 252 st, zA (kk 1) (am 2) 42 rp, zA (kk 1) (am 3) 160 tp, zA (kk 1) (am 4) 6 en, zA (kk 1) (am 5) 26 le, zA (kk 2) (am 9) 2 ik] → va_S A s.heap H locs → ∀ ls : Array Slot, lv_has ls 3 [(1, .int x1), (0, .ref (am 0))] → W p l e { frames := 6, cells := 0, slots := 0, locals := 134 } s m ([.ref (am 0)] : List Value).toArray below meth c H locs 0 0 (MQ below (va_Qi (fun (r : Int32) (u : (Nat → Int32) × (Nat → Int32) × (Nat → Int32) × (Nat → Int32)) => Q r u.1 u.2.1 u.2.2.1 u.2.2.2) (zB D A (fun u : (Nat → Int32) × (Nat → Int32) × (Nat → Int32) × (Nat → Int32) => [zM am u.1, zA (kk 1) (am 1) 252 u.2.1, zA (kk 1) (am 2) 42 u.2.2.1, zA (kk 1) (am 3) 160 tp, zA (kk 1) (am 4) 6 en, zA (kk 1) (am 5) 26 le, zA (kk 2) (am 9) 2 u.2.2.2])) A) ([.ref (am 0)] : List Value).toArray s 0 0 A) (F0 m 95 ls []) := by
                intro f st rp ik x1 h H locs hP hD hS ls hl
                unfold wpX7_text_95 at h
                refine lv_aload_n hx hb dX7_text_95 rfl (lv_at hl 1 rfl) ?_
                refine lv_iconst (v := (0 : Int32)) hx hb dX7_text_96 (by decide) ?_
                refine va_put (D := D) (ci := 7) (v := .int (0 : Int32)) (C := RX7) (T := TX7) (N := 29) hx hb hts in_X7 tyX7 tyX7_ok nmX7 hown hK hP hD hS 0 rfl rfl 6 (Nat.le_of_ble_eq_true rfl) (hts _ q945) (fun _ h9 => h9) rfl (tyX7_ok 6 (Nat.le_of_ble_eq_true rfl)) rfl rfl (Nat.le_of_ble_eq_true rfl) dX7_text_97 (fun H locs hP hD hS => ?_)
                have hP : va_P D vwCl [zM am (upd f 6 (0 : Int32)), zA (kk 1) (am 1) 252 st, zA (kk 1) (am 2) 42 rp, zA (kk 1) (am 3) 160 tp, zA (kk 1) (am 4) 6 en, zA (kk 1) (am 5) 26 le, zA (kk 2) (am 9) 2 ik] H := hP
                have hD : va_D A [zM am (upd f 6 (0 : Int32)), zA (kk 1) (am 1) 252 st, zA (kk 1) (am 2) 42 rp, zA (kk 1) (am 3) 160 tp, zA (kk 1) (am 4) 6 en, zA (kk 1) (am 5) 26 le, zA (kk 2) (am 9) 2 ik] := hD
                refine lv_aload_n hx hb dX7_text_100 rfl (lv_at hl 1 rfl) ?_
                refine lv_aload_n hx hb dX7_text_101 rfl (lv_at hl 1 rfl) ?_
                refine va_get (D := D) (ci := 7) (v := .int (f 8)) (C := RX7) (T := TX7) (N := 29) hx hb hts in_X7 hown hK hP 0 rfl rfl 8 (Nat.le_of_ble_eq_true rfl) (hts _ q947) (fun _ h9 => h9) rfl dX7_text_102 ?_
                refine va_put (D := D) (ci := 7) (v := .int (f 8)) (C := RX7) (T := TX7) (N := 29) hx hb hts in_X7 tyX7 tyX7_ok nmX7 hown hK hP hD hS 0 rfl rfl 7 (Nat.le_of_ble_eq_true rfl) (hts _ q946) (fun _ h9 => h9) rfl (tyX7_ok 7 (Nat.le_of_ble_eq_true rfl)) rfl rfl (Nat.le_of_ble_eq_true rfl) dX7_text_105 (fun H locs hP hD hS => ?_)
                have hP : va_P D vwCl [zM am (upd (upd f 6 (0 : Int32)) 7 (f 8)), zA (kk 1) (am 1) 252 st, zA (kk 1) (am 2) 42 rp, zA (kk 1) (am 3) 160 tp, zA (kk 1) (am 4) 6 en, zA (kk 1) (am 5) 26 le, zA (kk 2) (am 9) 2 ik] H := hP
                have hD : va_D A [zM am (upd (upd f 6 (0 : Int32)) 7 (f 8)), zA (kk 1) (am 1) 252 st, zA (kk 1) (am 2) 42 rp, zA (kk 1) (am 3) 160 tp, zA (kk 1) (am 4) 6 en, zA (kk 1) (am 5) 26 le, zA (kk 2) (am 9) 2 ik] := hD
                refine lv_aload_n hx hb dX7_text_108 rfl (lv_at hl 1 rfl) ?_
                refine va_get (D := D) (ci := 7) (v := .int (f 8)) (C := RX7) (T := TX7) (N := 29) hx hb hts in_X7 hown hK hP 0 rfl rfl 8 (Nat.le_of_ble_eq_true rfl) (hts _ q947) (fun _ h9 => h9) rfl dX7_text_109 ?_
                refine lv_if_le (tgt := 123) hx hb dX7_text_112 (by decide) (fun c_2 => ?_) (fun c_2 => ?_)
                · have h := h.1 c_2
                  refine lv_iconst (v := (0 : Int32)) hx hb dX7_text_123 (by decide) ?_
                  have cut_125 : ∀ (nl125 : Nat) (f : Nat → Int32) (st : Nat → Int32) (rp : Nat → Int32) (ik : Nat → Int32) (x1 : Int32) (x2 : Int32), wpX7_text_125 tp en le Q (wpX7_text_24 tp en le Q  nl24) (wpX7_text_47 tp en le Q (wpX7_text_24 tp en le Q  nl24) nl47) nl125 f st rp ik x1 x2 → ∀ (H : Heap) (locs : List Loc), va_P D vwCl [zM am f, zA (kk 1) (am 1) 252 st, zA (kk 1) (am 2) 42 rp, zA (kk 1) (am 3) 160 tp, zA (kk 1) (am 4) 6 en, zA (kk 1) (am 5) 26 le, zA (kk 2) (am 9) 2 ik] H → va_D A [zM am f, zA (kk 1) (am 1) 252 st, zA (kk 1) (am 2) 42 rp, zA (kk 1) (am 3) 160 tp, zA (kk 1) (am 4) 6 en, zA (kk 1) (am 5) 26 le, zA (kk 2) (am 9) 2 ik] → va_S A s.heap H locs → ∀ ls : Array Slot, lv_has ls 3 [(1, .int x1), (2, .int x2), (0, .ref (am 0))] → W p l e { frames := 6, cells := 0, slots := 0, locals := 134 } s m ([.ref (am 0)] : List Value).toArray below meth c H locs 0 0 (MQ below (va_Qi (fun (r : Int32) (u : (Nat → Int32) × (Nat → Int32) × (Nat → Int32) × (Nat → Int32)) => Q r u.1 u.2.1 u.2.2.1 u.2.2.2) (zB D A (fun u : (Nat → Int32) × (Nat → Int32) × (Nat → Int32) × (Nat → Int32) => [zM am u.1, zA (kk 1) (am 1) 252 u.2.1, zA (kk 1) (am 2) 42 u.2.2.1, zA (kk 1) (am 3) 160 tp, zA (kk 1) (am 4) 6 en, zA (kk 1) (am 5) 26 le, zA (kk 2) (am 9) 2 u.2.2.2])) A) ([.ref (am 0)] : List Value).toArray s 0 0 A) (F0 m 125 ls []) := by
                    intro nl125
                    induction nl125 with
                    | zero => intro f st rp ik x1 x2 h; exact absurd h id
                    | succ nl125 ih_125 =>
                      intro f st rp ik x1 x2 h H locs hP hD hS ls hl
                      have h : wbX7_text_125 tp en le Q (wpX7_text_24 tp en le Q  nl24) (wpX7_text_47 tp en le Q (wpX7_text_24 tp en le Q  nl24) nl47) (wpX7_text_125 tp en le Q (wpX7_text_24 tp en le Q  nl24) (wpX7_text_47 tp en le Q (wpX7_text_24 tp en le Q  nl24) nl47) nl125) f st rp ik x1 x2 := h
                      unfold wbX7_text_125 at h
                      refine lv_iload_n hx hb dX7_text_125 rfl (lv_at hl 1 rfl) ?_
                      refine lv_bipush (v := (42 : Int32)) hx hb dX7_text_126 (by decide) ?_
                      refine lv_icmp_ge (tgt := 149) hx hb dX7_text_128 (by decide) (fun c_3 => ?_) (fun c_3 => ?_)
                      · have h := h.1 c_3
                        refine lv_aload_n hx hb dX7_text_149 rfl (lv_at hl 2 rfl) ?_
                        refine lv_aload_n hx hb dX7_text_150 rfl (lv_at hl 2 rfl) ?_
                        refine va_get (D := D) (ci := 7) (v := .int (f 3)) (C := RX7) (T := TX7) (N := 29) hx hb hts in_X7 hown hK hP 0 rfl rfl 3 (Nat.le_of_ble_eq_true rfl) (hts _ q942) (fun _ h9 => h9) rfl dX7_text_151 ?_
                        refine va_put (D := D) (ci := 7) (v := .int (f 3)) (C := RX7) (T := TX7) (N := 29) hx hb hts in_X7 tyX7 tyX7_ok nmX7 hown hK hP hD hS 0 rfl rfl 1 (Nat.le_of_ble_eq_true rfl) (hts _ q940) (fun _ h9 => h9) rfl (tyX7_ok 1 (Nat.le_of_ble_eq_true rfl)) rfl rfl (Nat.le_of_ble_eq_true rfl) dX7_text_154 (fun H locs hP hD hS => ?_)
                        have hP : va_P D vwCl [zM am (upd f 1 (f 3)), zA (kk 1) (am 1) 252 st, zA (kk 1) (am 2) 42 rp, zA (kk 1) (am 3) 160 tp, zA (kk 1) (am 4) 6 en, zA (kk 1) (am 5) 26 le, zA (kk 2) (am 9) 2 ik] H := hP
                        have hD : va_D A [zM am (upd f 1 (f 3)), zA (kk 1) (am 1) 252 st, zA (kk 1) (am 2) 42 rp, zA (kk 1) (am 3) 160 tp, zA (kk 1) (am 4) 6 en, zA (kk 1) (am 5) 26 le, zA (kk 2) (am 9) 2 ik] := hD
                        refine lv_aload_n hx hb dX7_text_157 rfl (lv_at hl 2 rfl) ?_
                        refine lv_iconst (v := (0 : Int32)) hx hb dX7_text_158 (by decide) ?_
                        refine va_put (D := D) (ci := 7) (v := .int (0 : Int32)) (C := RX7) (T := TX7) (N := 29) hx hb hts in_X7 tyX7 tyX7_ok nmX7 hown hK hP hD hS 0 rfl rfl 22 (Nat.le_of_ble_eq_true rfl) (hts _ q961) (fun _ h9 => h9) rfl (tyX7_ok 22 (Nat.le_of_ble_eq_true rfl)) rfl rfl (Nat.le_of_ble_eq_true rfl) dX7_text_159 (fun H locs hP hD hS => ?_)
                        have hP : va_P D vwCl [zM am (upd (upd f 1 (f 3)) 22 (0 : Int32)), zA (kk 1) (am 1) 252 st, zA (kk 1) (am 2) 42 rp, zA (kk 1) (am 3) 160 tp, zA (kk 1) (am 4) 6 en, zA (kk 1) (am 5) 26 le, zA (kk 2) (am 9) 2 ik] H := hP
                        have hD : va_D A [zM am (upd (upd f 1 (f 3)) 22 (0 : Int32)), zA (kk 1) (am 1) 252 st, zA (kk 1) (am 2) 42 rp, zA (kk 1) (am 3) 160 tp, zA (kk 1) (am 4) 6 en, zA (kk 1) (am 5) 26 le, zA (kk 2) (am 9) 2 ik] := hD
                        refine lv_aload_n hx hb dX7_text_162 rfl (lv_at hl 2 rfl) ?_
                        refine va_get (D := D) (ci := 7) (v := .ref (am 9)) (C := RX7) (T := TX7) (N := 29) hx hb hts in_X7 hown hK hP 0 rfl rfl 24 (Nat.le_of_ble_eq_true rfl) (hts _ q963) (fun _ h9 => h9) rfl dX7_text_163 ?_
                        refine lv_iconst (v := (0 : Int32)) hx hb dX7_text_166 (by decide) ?_
                        refine lv_iconst (v := (0 : Int32)) hx hb dX7_text_167 (by decide) ?_
                        refine va_zast hx hb hK hP hD hS 6 2 rfl rfl (by unfold vp_in; decide) dX7_text_168 (fun H locs hP hD hS => ?_)
                        have hP : va_P D vwCl [zM am (upd (upd f 1 (f 3)) 22 (0 : Int32)), zA (kk 1) (am 1) 252 st, zA (kk 1) (am 2) 42 rp, zA (kk 1) (am 3) 160 tp, zA (kk 1) (am 4) 6 en, zA (kk 1) (am 5) 26 le, zA (kk 2) (am 9) 2 (upd ik (0 : Int32).toNatClampNeg (vp_nar .boolean (0 : Int32)))] H := hP
                        have hD : va_D A [zM am (upd (upd f 1 (f 3)) 22 (0 : Int32)), zA (kk 1) (am 1) 252 st, zA (kk 1) (am 2) 42 rp, zA (kk 1) (am 3) 160 tp, zA (kk 1) (am 4) 6 en, zA (kk 1) (am 5) 26 le, zA (kk 2) (am 9) 2 (upd ik (0 : Int32).toNatClampNeg (vp_nar .boolean (0 : Int32)))] := hD
                        refine lv_aload_n hx hb dX7_text_169 rfl (lv_at hl 2 rfl) ?_
                        refine va_get (D := D) (ci := 7) (v := .ref (am 9)) (C := RX7) (T := TX7) (N := 29) hx hb hts in_X7 hown hK hP 0 rfl rfl 24 (Nat.le_of_ble_eq_true rfl) (hts _ q963) (fun _ h9 => h9) rfl dX7_text_170 ?_
                        refine lv_iconst (v := (1 : Int32)) hx hb dX7_text_173 (by decide) ?_
                        refine lv_iconst (v := (0 : Int32)) hx hb dX7_text_174 (by decide) ?_
                        refine va_zast hx hb hK hP hD hS 6 2 rfl rfl (by unfold vp_in; decide) dX7_text_175 (fun H locs hP hD hS => ?_)
                        have hP : va_P D vwCl [zM am (upd (upd f 1 (f 3)) 22 (0 : Int32)), zA (kk 1) (am 1) 252 st, zA (kk 1) (am 2) 42 rp, zA (kk 1) (am 3) 160 tp, zA (kk 1) (am 4) 6 en, zA (kk 1) (am 5) 26 le, zA (kk 2) (am 9) 2 (upd (upd ik (0 : Int32).toNatClampNeg (vp_nar .boolean (0 : Int32))) (1 : Int32).toNatClampNeg (vp_nar .boolean (0 : Int32)))] H := hP
                        have hD : va_D A [zM am (upd (upd f 1 (f 3)) 22 (0 : Int32)), zA (kk 1) (am 1) 252 st, zA (kk 1) (am 2) 42 rp, zA (kk 1) (am 3) 160 tp, zA (kk 1) (am 4) 6 en, zA (kk 1) (am 5) 26 le, zA (kk 2) (am 9) 2 (upd (upd ik (0 : Int32).toNatClampNeg (vp_nar .boolean (0 : Int32))) (1 : Int32).toNatClampNeg (vp_nar .boolean (0 : Int32)))] := hD
                        refine lv_iload_n hx hb dX7_text_176 rfl (lv_at hl 0 rfl) ?_
                        exact zr_i hx hb hr hlk rfl hP hD hS ((upd (upd f 1 (f 3)) 22 (0 : Int32)), st, rp, (upd (upd ik (0 : Int32).toNatClampNeg (vp_nar .boolean (0 : Int32))) (1 : Int32).toNatClampNeg (vp_nar .boolean (0 : Int32)))) [0, 1, 2, 3, 4, 5, 6] rfl (by decide) dX7_text_177 h
                      · have h := h.2 c_3
                        refine lv_aload_n hx hb dX7_text_131 rfl (lv_at hl 2 rfl) ?_
                        refine va_get (D := D) (ci := 7) (v := .ref (am 1)) (C := RX7) (T := TX7) (N := 29) hx hb hts in_X7 hown hK hP 0 rfl rfl 0 (Nat.le_of_ble_eq_true rfl) (hts _ q939) (fun _ h9 => h9) rfl dX7_text_132 ?_
                        refine lv_iload_n hx hb dX7_text_135 rfl (lv_at hl 1 rfl) ?_
                        refine lv_aload_n hx hb dX7_text_136 rfl (lv_at hl 2 rfl) ?_
                        refine va_get (D := D) (ci := 7) (v := .ref (am 2)) (C := RX7) (T := TX7) (N := 29) hx hb hts in_X7 hown hK hP 0 rfl rfl 2 (Nat.le_of_ble_eq_true rfl) (hts _ q941) (fun _ h9 => h9) rfl dX7_text_137 ?_
                        refine lv_iload_n hx hb dX7_text_140 rfl (lv_at hl 1 rfl) ?_
                        obtain ⟨hin, h⟩ := h
                        refine va_iald hx hb hK hP 2 1 rfl rfl hin dX7_text_141 ?_
                        obtain ⟨hin, h⟩ := h
                        refine va_iast hx hb hK hP hD hS 1 1 rfl rfl hin dX7_text_142 (fun H locs hP hD hS => ?_)
                        have hP : va_P D vwCl [zM am f, zA (kk 1) (am 1) 252 (upd st x2.toNatClampNeg (rp x2.toNatClampNeg)), zA (kk 1) (am 2) 42 rp, zA (kk 1) (am 3) 160 tp, zA (kk 1) (am 4) 6 en, zA (kk 1) (am 5) 26 le, zA (kk 2) (am 9) 2 ik] H := hP
                        have hD : va_D A [zM am f, zA (kk 1) (am 1) 252 (upd st x2.toNatClampNeg (rp x2.toNatClampNeg)), zA (kk 1) (am 2) 42 rp, zA (kk 1) (am 3) 160 tp, zA (kk 1) (am 4) 6 en, zA (kk 1) (am 5) 26 le, zA (kk 2) (am 9) 2 ik] := hD
                        refine lv_iinc (v := (x2 + 1)) (lv' := [(2, .int (x2 + 1)), (1, .int x1), (0, .ref (am 0))]) hx hb dX7_text_143 hl (k := 1) rfl rfl (by decide) rfl (fun ls hl => ?_)
                        refine lv_goto (tgt := 125) hx hb dX7_text_146 (by decide) ?_
                        exact ih_125 f (upd st x2.toNatClampNeg (rp x2.toNatClampNeg)) rp ik x1 (x2 + 1) h _ _ hP hD hS _ (lv_sub hl [1, 0, 2] rfl)
                  refine lv_istore_n (lv' := [(2, .int (0 : Int32)), (1, .int x1), (0, .ref (am 0))]) hx hb dX7_text_124 rfl hl (by decide) rfl (fun ls hl => ?_)
                  obtain ⟨n_125, h⟩ := h
                  exact cut_125 n_125 (upd (upd f 6 (0 : Int32)) 7 (f 8)) st rp ik x1 (0 : Int32) h _ _ hP hD hS _ (lv_sub hl [1, 0, 2] rfl)
                · have h := h.2 c_2
                  refine lv_bipush (v := (-10 : Int32)) hx hb dX7_text_115 (by decide) ?_
                  refine lv_aload_n hx hb dX7_text_117 rfl (lv_at hl 1 rfl) ?_
                  refine va_get (D := D) (ci := 7) (v := .int (f 9)) (C := RX7) (T := TX7) (N := 29) hx hb hts in_X7 hown hK hP 0 rfl rfl 9 (Nat.le_of_ble_eq_true rfl) (hts _ q948) (fun _ h9 => h9) rfl dX7_text_118 ?_
                  refine lv_isub hx hb dX7_text_121 ?_
                  exact zr_i hx hb hr hlk rfl hP hD hS ((upd (upd f 6 (0 : Int32)) 7 (f 8)), st, rp, ik) [0, 1, 2, 3, 4, 5, 6] rfl (by decide) dX7_text_122 h
              refine lv_if_ne (tgt := 95) hx hb dX7_text_75 (by decide) (fun c_4 => ?_) (fun c_4 => ?_)
              · have h := h.2 c_4
                exact cut_95 f st rp ik x1 h _ _ hP hD hS _ (lv_sub hl [0, 1] rfl)
              · have h := h.1 c_4
                refine lv_aload_n hx hb dX7_text_78 rfl (lv_at hl 1 rfl) ?_
                refine va_get (D := D) (ci := 7) (v := .int (f 4)) (C := RX7) (T := TX7) (N := 29) hx hb hts in_X7 hown hK hP 0 rfl rfl 4 (Nat.le_of_ble_eq_true rfl) (hts _ q943) (fun _ h9 => h9) rfl dX7_text_79 ?_
                refine lv_aload_n hx hb dX7_text_82 rfl (lv_at hl 1 rfl) ?_
                refine va_get (D := D) (ci := 7) (v := .int (f 3)) (C := RX7) (T := TX7) (N := 29) hx hb hts in_X7 hown hK hP 0 rfl rfl 3 (Nat.le_of_ble_eq_true rfl) (hts _ q942) (fun _ h9 => h9) rfl dX7_text_83 ?_
                refine lv_icmp_lt (tgt := 95) hx hb dX7_text_86 (by decide) (fun c_5 => ?_) (fun c_5 => ?_)
                · have h := h.1 c_5
                  exact cut_95 f st rp ik x1 h _ _ hP hD hS _ (lv_sub hl [0, 1] rfl)
                · have h := h.2 c_5
                  refine lv_aload_n hx hb dX7_text_89 rfl (lv_at hl 1 rfl) ?_
                  refine lv_bipush (v := (6 : Int32)) hx hb dX7_text_90 (by decide) ?_
                  have hrc := va_recv hK hP (ci := 7) (q0 := 0) rfl rfl
                  refine zc_v (wc := [zM am f]) (wr := [zA (kk 1) (am 1) 252 st, zA (kk 1) (am 2) 42 rp, zA (kk 1) (am 3) 160 tp, zA (kk 1) (am 4) 6 en, zA (kk 1) (am 5) 26 le, zA (kk 2) (am 9) 2 ik]) (w1 := (fun u : (Nat → Int32) => [zM am u])) (rest := []) [0] [1, 2, 3, 4, 5, 6] rfl rfl (by decide) (by decide) (by decide) hA hP hD hS (fun hP hD => va_runV (As := [.int (6 : Int32)]) (rest := []) ⟨hx, hb, hml, hown, hts⟩ (metX7_fails l D kk am _ f (6 : Int32) _ h) (cwV 1 hts (lw_V q1056 q1058 qs36 q71 q1059) rfl rfl rfl pdX7_fails ⟨(Nat.le_of_ble_eq_true rfl), (Nat.le_of_ble_eq_true rfl)⟩) (zp_V hK hN hrc hP hD) rfl rfl hl.1 rfl (lv_room (Nat.le_of_ble_eq_true rfl)) dX7_text_92 ⟨(Nat.le_of_ble_eq_true rfl), (Nat.le_of_ble_eq_true rfl)⟩) (fun u H locs h hP hD hS => ?_)
                  obtain ⟨f_7, rfl⟩ : ∃ z, z = u := ⟨_, rfl⟩
                  try dsimp only at h
                  have hP : va_P D vwCl [zA (kk 1) (am 1) 252 st, zA (kk 1) (am 2) 42 rp, zA (kk 1) (am 3) 160 tp, zA (kk 1) (am 4) 6 en, zA (kk 1) (am 5) 26 le, zA (kk 2) (am 9) 2 ik, zM am f_7] H := hP
                  have hD : va_D A [zA (kk 1) (am 1) 252 st, zA (kk 1) (am 2) 42 rp, zA (kk 1) (am 3) 160 tp, zA (kk 1) (am 4) 6 en, zA (kk 1) (am 5) 26 le, zA (kk 2) (am 9) 2 ik, zM am f_7] := hD
                  exact cut_95 f_7 st rp ik x1 h _ _ (hP.sub [6, 0, 1, 2, 3, 4, 5] rfl) (hD.sub [6, 0, 1, 2, 3, 4, 5] (by decide) rfl) hS _ (lv_sub hl [0, 1] rfl)
            refine lv_if_ne (tgt := 71) hx hb dX7_text_51 (by decide) (fun c_8 => ?_) (fun c_8 => ?_)
            · have h := h.2 c_8
              exact cut_71 f st rp ik x1 h _ _ hP hD hS _ (lv_sub hl [0, 1] rfl)
            · have h := h.1 c_8
              refine lv_aload_n hx hb dX7_text_54 rfl (lv_at hl 1 rfl) ?_
              refine va_get (D := D) (ci := 7) (v := .int (f 12)) (C := RX7) (T := TX7) (N := 29) hx hb hts in_X7 hown hK hP 0 rfl rfl 12 (Nat.le_of_ble_eq_true rfl) (hts _ q951) (fun _ h9 => h9) rfl dX7_text_55 ?_
              refine lv_if_eq (tgt := 71) hx hb dX7_text_58 (by decide) (fun c_9 => ?_) (fun c_9 => ?_)
              · have h := h.1 c_9
                exact cut_71 f st rp ik x1 h _ _ hP hD hS _ (lv_sub hl [0, 1] rfl)
              · have h := h.2 c_9
                refine lv_aload_n hx hb dX7_text_61 rfl (lv_at hl 1 rfl) ?_
                have hrc := va_recv hK hP (ci := 7) (q0 := 0) rfl rfl
                refine zc_v (wc := [zM am f, zA (kk 1) (am 2) 42 rp, zA (kk 1) (am 3) 160 tp, zA (kk 1) (am 4) 6 en, zA (kk 1) (am 5) 26 le]) (wr := [zA (kk 1) (am 1) 252 st, zA (kk 2) (am 9) 2 ik]) (w1 := (fun u : (Nat → Int32) × (Nat → Int32) => [zM am u.1, zA (kk 1) (am 2) 42 u.2, zA (kk 1) (am 3) 160 tp, zA (kk 1) (am 4) 6 en, zA (kk 1) (am 5) 26 le])) (rest := []) [0, 2, 3, 4, 5] [1, 6] rfl rfl (by decide) (by decide) (by decide) hA hP hD hS (fun hP hD => va_runV (As := []) (rest := []) ⟨hx, hb, hml, hown, hts⟩ (metX7_readLine l D kk am _ f rp tp en le _ h) (cwV 0 hts (lw_V q1060 q1062 qs37 q71 q1063) rfl rfl rfl pdX7_readLine ⟨(Nat.le_of_ble_eq_true rfl), (Nat.le_of_ble_eq_true rfl)⟩) (zp_V hK hN hrc hP hD) rfl rfl hl.1 rfl (lv_room (Nat.le_of_ble_eq_true rfl)) dX7_text_62 ⟨(Nat.le_of_ble_eq_true rfl), (Nat.le_of_ble_eq_true rfl)⟩) (fun u H locs h hP hD hS => ?_)
                obtain ⟨f_11, rp_12⟩ := u
                try dsimp only at h
                have hP : va_P D vwCl [zA (kk 1) (am 1) 252 st, zA (kk 2) (am 9) 2 ik, zM am f_11, zA (kk 1) (am 2) 42 rp_12, zA (kk 1) (am 3) 160 tp, zA (kk 1) (am 4) 6 en, zA (kk 1) (am 5) 26 le] H := hP
                have hD : va_D A [zA (kk 1) (am 1) 252 st, zA (kk 2) (am 9) 2 ik, zM am f_11, zA (kk 1) (am 2) 42 rp_12, zA (kk 1) (am 3) 160 tp, zA (kk 1) (am 4) 6 en, zA (kk 1) (am 5) 26 le] := hD
                refine lv_iinc (v := (x1 + 1)) (lv' := [(1, .int (x1 + 1)), (0, .ref (am 0))]) hx hb dX7_text_65 hl (k := 0) rfl rfl (by decide) rfl (fun ls hl => ?_)
                refine lv_goto (tgt := 47) hx hb dX7_text_68 (by decide) ?_
                exact ih_47 f_11 st rp_12 ik (x1 + 1) h _ _ (hP.sub [2, 0, 3, 4, 5, 6, 1] rfl) (hD.sub [2, 0, 3, 4, 5, 6, 1] (by decide) rfl) hS _ (lv_sub hl [0, 1] rfl)
        have hrc := va_recv hK hP (ci := 7) (q0 := 0) rfl rfl
        refine zc_v (wc := [zM am f, zA (kk 1) (am 3) 160 tp]) (wr := [zA (kk 1) (am 1) 252 st, zA (kk 1) (am 2) 42 rp, zA (kk 1) (am 4) 6 en, zA (kk 1) (am 5) 26 le, zA (kk 2) (am 9) 2 ik]) (w1 := (fun u : (Nat → Int32) => [zM am u, zA (kk 1) (am 3) 160 tp])) (rest := []) [0, 3] [1, 2, 4, 5, 6] rfl rfl (by decide) (by decide) (by decide) hA hP hD hS (fun hP hD => va_runV (As := []) (rest := []) ⟨hx, hb, hml, hown, hts⟩ (metX7_step l D kk am _ f tp _ h) (cwV 0 hts (lw_V q1044 q1046 qs34 q71 q1047) rfl rfl rfl pdX7_step ⟨(Nat.le_of_ble_eq_true rfl), (Nat.le_of_ble_eq_true rfl)⟩) (zp_V hK hN hrc hP hD) rfl rfl hl.1 rfl (lv_room (Nat.le_of_ble_eq_true rfl)) dX7_text_44 ⟨(Nat.le_of_ble_eq_true rfl), (Nat.le_of_ble_eq_true rfl)⟩) (fun u H locs h hP hD hS => ?_)
        obtain ⟨f_14, rfl⟩ : ∃ z, z = u := ⟨_, rfl⟩
        try dsimp only at h
        have hP : va_P D vwCl [zA (kk 1) (am 1) 252 st, zA (kk 1) (am 2) 42 rp, zA (kk 1) (am 4) 6 en, zA (kk 1) (am 5) 26 le, zA (kk 2) (am 9) 2 ik, zM am f_14, zA (kk 1) (am 3) 160 tp] H := hP
        have hD : va_D A [zA (kk 1) (am 1) 252 st, zA (kk 1) (am 2) 42 rp, zA (kk 1) (am 4) 6 en, zA (kk 1) (am 5) 26 le, zA (kk 2) (am 9) 2 ik, zM am f_14, zA (kk 1) (am 3) 160 tp] := hD
        obtain ⟨n_47, h⟩ := h
        exact cut_47 n_47 f_14 st rp ik x1 h _ _ (hP.sub [5, 0, 1, 6, 2, 3, 4] rfl) (hD.sub [5, 0, 1, 6, 2, 3, 4] (by decide) rfl) hS _ (lv_sub hl [0, 2] rfl)
      · have h := h.2 c_1
        refine lv_aload_n hx hb dX7_text_30 rfl (lv_at hl 2 rfl) ?_
        refine va_get (D := D) (ci := 7) (v := .ref (am 2)) (C := RX7) (T := TX7) (N := 29) hx hb hts in_X7 hown hK hP 0 rfl rfl 2 (Nat.le_of_ble_eq_true rfl) (hts _ q941) (fun _ h9 => h9) rfl dX7_text_31 ?_
        refine lv_iload_n hx hb dX7_text_34 rfl (lv_at hl 1 rfl) ?_
        refine lv_iconst (v := (0 : Int32)) hx hb dX7_text_35 (by decide) ?_
        obtain ⟨hin, h⟩ := h
        refine va_iast hx hb hK hP hD hS 2 1 rfl rfl hin dX7_text_36 (fun H locs hP hD hS => ?_)
        have hP : va_P D vwCl [zM am f, zA (kk 1) (am 1) 252 st, zA (kk 1) (am 2) 42 (upd rp x2.toNatClampNeg (0 : Int32)), zA (kk 1) (am 3) 160 tp, zA (kk 1) (am 4) 6 en, zA (kk 1) (am 5) 26 le, zA (kk 2) (am 9) 2 ik] H := hP
        have hD : va_D A [zM am f, zA (kk 1) (am 1) 252 st, zA (kk 1) (am 2) 42 (upd rp x2.toNatClampNeg (0 : Int32)), zA (kk 1) (am 3) 160 tp, zA (kk 1) (am 4) 6 en, zA (kk 1) (am 5) 26 le, zA (kk 2) (am 9) 2 ik] := hD
        refine lv_iinc (v := (x2 + 1)) (lv' := [(2, .int (x2 + 1)), (1, .int x1), (0, .ref (am 0))]) hx hb dX7_text_37 hl (k := 1) rfl rfl (by decide) rfl (fun ls hl => ?_)
        refine lv_goto (tgt := 24) hx hb dX7_text_40 (by decide) ?_
        exact ih_24 f st (upd rp x2.toNatClampNeg (0 : Int32)) ik x1 (x2 + 1) h _ _ hP hD hS _ (lv_sub hl [1, 0, 2] rfl)
  refine lv_istore_n (lv' := [(2, .int (0 : Int32)), (1, .int (0 : Int32)), (0, .ref (am 0))]) hx hb dX7_text_23 rfl hl (by decide) rfl (fun ls hl => ?_)
  obtain ⟨n_24, h⟩ := h
  exact cut_24 n_24 (upd (upd (upd (upd f 8 (0 : Int32)) 10 (0 : Int32)) 3 (0 : Int32)) 4 (-1 : Int32)) st rp ik (0 : Int32) (0 : Int32) h _ _ hP hD hS _ (lv_sub hl [1, 0, 2] rfl)
def wpX7_fault (f : Nat → Int32) (Q : Int32 → Prop) : Prop :=
  Q (f 7)
set_option maxHeartbeats 4000000 in
theorem metX7_fault (l : Launch) (D : va_G) (kk : Nat → ClassId) (am : Nat → Nat) (sz : Nat) (f : Nat → Int32) (Q : Int32 → Prop) (h : wpX7_fault f Q) : Met l yX7_fault (ws_ yX7_fault cX7_fault 1 (some .int)) { frames := 0, cells := 0, slots := 0, locals := 0 } (va_Pc ([.ref (am 0)] : List Value) (zPc D kk [zM am f] sz)) (va_Qi (fun (r : Int32) (u : Unit) => Q r ) (zB D (va_A [zM am f] sz) (fun u : Unit => [zM am f])) (va_A [zM am f] sz)) 0 0 (va_A [zM am f] sz) := by
  refine zMet (Qc := fun A => va_Qi (fun (r : Int32) (u : Unit) => Q r ) (zB D A (fun u : Unit => [zM am f])) A) (by decide) (Nat.le_of_ble_eq_true rfl) ?_
  intro p e s m below meth c A X hP hD hS ls hl
  obtain ⟨hx, hb, hr, hml, hown, hts, hlk, hnm, hK, hN, hA⟩ := X
  have hown : s.vm.findClass "LoseLeagueModel" = some m.cls := hown
  have hl : lv_has ls 1 [(0, .ref (am 0))] := hl
  unfold wpX7_fault at h
  refine lv_aload_n hx hb dX7_fault_0 rfl (lv_at hl 0 rfl) ?_
  refine va_get (D := D) (ci := 7) (v := .int (f 7)) (C := RX7) (T := TX7) (N := 29) hx hb hts in_X7 hown hK hP 0 rfl rfl 7 (Nat.le_of_ble_eq_true rfl) (hts _ q946) (fun _ h9 => h9) rfl dX7_fault_1 ?_
  exact zr_i hx hb hr hlk rfl hP hD hS () [0] rfl (by decide) dX7_fault_4 h
