/-! TEXT 2: the reader -/
set_option maxRecDepth 100000
theorem pdX8_isIn : yX8_isIn.cls = "LoseLeague$Reader" ∧ yX8_isIn.cls ≠ "java/lang/invoke/MethodHandle" ∧ yX8_isIn.cls ≠ "java/lang/invoke/VarHandle" ∧ (parseMethodDescriptor yX8_isIn.desc).map (fun d => d.parameters.length) = some 2 := by decide +kernel
theorem peX8_isIn : yX8_isIn.name ≠ "<init>" ∧ (parseMethodDescriptor yX8_isIn.desc).map (fun d => d.parameters.length) = some 2 := by decide +kernel
theorem pdX8_need : yX8_need.cls = "LoseLeague$Reader" ∧ yX8_need.cls ≠ "java/lang/invoke/MethodHandle" ∧ yX8_need.cls ≠ "java/lang/invoke/VarHandle" ∧ (parseMethodDescriptor yX8_need.desc).map (fun d => d.parameters.length) = some 2 := by decide +kernel
theorem peX8_need : yX8_need.name ≠ "<init>" ∧ (parseMethodDescriptor yX8_need.desc).map (fun d => d.parameters.length) = some 2 := by decide +kernel
theorem pdX8_name : yX8_name.cls = "LoseLeague$Reader" ∧ yX8_name.cls ≠ "java/lang/invoke/MethodHandle" ∧ yX8_name.cls ≠ "java/lang/invoke/VarHandle" ∧ (parseMethodDescriptor yX8_name.desc).map (fun d => d.parameters.length) = some 1 := by decide +kernel
theorem peX8_name : yX8_name.name ≠ "<init>" ∧ (parseMethodDescriptor yX8_name.desc).map (fun d => d.parameters.length) = some 1 := by decide +kernel
theorem pdX8_is : yX8_is.cls = "LoseLeague$Reader" ∧ yX8_is.cls ≠ "java/lang/invoke/MethodHandle" ∧ yX8_is.cls ≠ "java/lang/invoke/VarHandle" ∧ (parseMethodDescriptor yX8_is.desc).map (fun d => d.parameters.length) = some 1 := by decide +kernel
theorem peX8_is : yX8_is.name ≠ "<init>" ∧ (parseMethodDescriptor yX8_is.desc).map (fun d => d.parameters.length) = some 1 := by decide +kernel
theorem pdX8_next : yX8_next.cls = "LoseLeague$Reader" ∧ yX8_next.cls ≠ "java/lang/invoke/MethodHandle" ∧ yX8_next.cls ≠ "java/lang/invoke/VarHandle" ∧ (parseMethodDescriptor yX8_next.desc).map (fun d => d.parameters.length) = some 0 := by decide +kernel
theorem peX8_next : yX8_next.name ≠ "<init>" ∧ (parseMethodDescriptor yX8_next.desc).map (fun d => d.parameters.length) = some 0 := by decide +kernel
theorem pdX8_looked : yX8_looked.cls = "LoseLeague$Reader" ∧ yX8_looked.cls ≠ "java/lang/invoke/MethodHandle" ∧ yX8_looked.cls ≠ "java/lang/invoke/VarHandle" ∧ (parseMethodDescriptor yX8_looked.desc).map (fun d => d.parameters.length) = some 1 := by decide +kernel
theorem peX8_looked : yX8_looked.name ≠ "<init>" ∧ (parseMethodDescriptor yX8_looked.desc).map (fun d => d.parameters.length) = some 1 := by decide +kernel
theorem pdX8_game : yX8_game.cls = "LoseLeague$Reader" ∧ yX8_game.cls ≠ "java/lang/invoke/MethodHandle" ∧ yX8_game.cls ≠ "java/lang/invoke/VarHandle" ∧ (parseMethodDescriptor yX8_game.desc).map (fun d => d.parameters.length) = some 0 := by decide +kernel
theorem peX8_game : yX8_game.name ≠ "<init>" ∧ (parseMethodDescriptor yX8_game.desc).map (fun d => d.parameters.length) = some 0 := by decide +kernel
theorem pdX8_line : yX8_line.cls = "LoseLeague$Reader" ∧ yX8_line.cls ≠ "java/lang/invoke/MethodHandle" ∧ yX8_line.cls ≠ "java/lang/invoke/VarHandle" ∧ (parseMethodDescriptor yX8_line.desc).map (fun d => d.parameters.length) = some 0 := by decide +kernel
theorem peX8_line : yX8_line.name ≠ "<init>" ∧ (parseMethodDescriptor yX8_line.desc).map (fun d => d.parameters.length) = some 0 := by decide +kernel
theorem pdX8_lines : yX8_lines.cls = "LoseLeague$Reader" ∧ yX8_lines.cls ≠ "java/lang/invoke/MethodHandle" ∧ yX8_lines.cls ≠ "java/lang/invoke/VarHandle" ∧ (parseMethodDescriptor yX8_lines.desc).map (fun d => d.parameters.length) = some 0 := by decide +kernel
theorem peX8_lines : yX8_lines.name ≠ "<init>" ∧ (parseMethodDescriptor yX8_lines.desc).map (fun d => d.parameters.length) = some 0 := by decide +kernel
theorem pdX8_init : yX8_init.cls = "LoseLeague$Reader" ∧ yX8_init.cls ≠ "java/lang/invoke/MethodHandle" ∧ yX8_init.cls ≠ "java/lang/invoke/VarHandle" ∧ (parseMethodDescriptor yX8_init.desc).map (fun d => d.parameters.length) = some 2 := by decide +kernel
abbrev zRd (ad : Nat → Nat) (a m : Nat) (f : Nat → Int32) : Nat × va_E := (a, .inr (8, [.int (f 0), .ref m, .int (f 2), .int (f 3), .int (f 4), .int (f 5), .int (f 6), .ref (ad 0)]))
def zNi (k : Int32) : Nat := if k = 0 then 0 else if k = 1 then 1 else if k = 2 then 2 else if k = 3 then 3 else 4
theorem zNi_lt (k : Int32) : zNi k < 5 := by
  unfold zNi
  split
  · decide
  · split
    · decide
    · split
      · decide
      · split <;> decide
section ZR0
variable {p : Program} {l : Launch} {e : Env} {R : Room} {s : State} {m : MethodId} {args : Array Value} {below : List Frame} {meth : Method} {c : Code} {H : Heap} {locs : List Loc} {cells slots : Nat} {Q : State → Prop}
variable {pc : Nat} {ls : Array Slot} {rest st0 : List Value} {a : Array Value} {D : va_G} {A : Nat → Prop} {ws : va_W} {mc ms : Nat}
theorem zc_r0 {ra : Nat} (hA : ∀ q : Nat, s.heap.size ≤ q → A q) (hP : va_P D vwCl ws H) (hD : va_D A ws) (hS : va_S A s.heap H locs)
    (hr : va_P D vwCl [] H → va_D A [] → va_Run p l e R s m args below meth c H locs cells slots mc ms (F0 m pc ls st0) rest (va_Qr (fun _ : Unit => True) (fun _ b _ => b = ra) (va_A [] H.size) a) (va_A [] H.size))
    (kk : ∀ (H1 : Heap) (locs1 : List Loc), va_P D vwCl ws H1 → va_D A ws → va_S A s.heap H1 locs1 → W p l e R s m args below meth c H1 locs1 (cells + mc) (slots + ms) Q (F0 m (pc + 3) ls (.ref ra :: rest))) :
    W p l e R s m args below meth c H locs cells slots Q (F0 m pc ls st0) := by
  have hFc : ∀ q, va_A [] H.size q → A q := by
    rintro q (⟨k, e, h⟩ | h)
    · cases h
    · exact hA q (Nat.le_trans hS.1 h)
  refine va_callr (hr (hP.sub [] rfl) (hD.sub [] (by decide) rfl)) hS (fun q _ h => hFc q h) hFc (fun u ra' t H1 locs1 ht hvm _ hB hz hk hS1 => ?_)
  subst hB
  refine kk H1 locs1 (hP.kept (fun k x hx => hk x.1 ((hP k x hx).lt) ?_)) hD hS1
  rintro (⟨k', e, h⟩ | h)
  · cases h
  · exact absurd ((hP k x hx).lt) (Nat.not_lt.mpr h)
end ZR0
set_option maxHeartbeats 4000000 in
theorem metX8_name (l : Launch) (htr : l.stackTraces = false) (D : va_G) (kk : Nat → ClassId) (sg : Nat → Nat) (ra : Nat) (sz : Nat) (p1 : Int32) : Met l yX8_name (ws_ yX8_name cX8_name 2 (some (.object "java/lang/String"))) { frames := 0, cells := 0, slots := 0, locals := 0 } (va_Pc ([.ref ra, .int p1] : List Value) (zPF D kk sg [] sz)) (va_Qr (fun _ : Unit => True) (fun _ b _ => b = sg (zNi p1)) (va_A [] sz)) 0 0 (va_A [] sz) := by
  refine zMetF (Qc := fun A => va_Qr (fun _ : Unit => True) (fun _ b _ => b = sg (zNi p1)) A) htr (by decide) (Nat.le_of_ble_eq_true rfl) ?_
  intro p e s m below meth c A X hh hU hP hD hS ls hl
  obtain ⟨hx, hb, hr, hml, hown, hts, hlk, hnm, hK, hN, hA⟩ := X
  have hown : s.vm.findClass "LoseLeague$Reader" = some m.cls := hown
  have hl : lv_has ls 2 [(0, .ref ra), (1, .int p1)] := hl
  refine lv_iload_n hx hb dX8_name_0 rfl (lv_at hl 1 rfl) ?_
  by_cases c0 : p1 = 0
  · refine lv_tableIn (tgt := 32) hx hb dX8_name_1 (by rw [c0]; decide) (by rw [c0]; decide) (by rw [c0]; rfl) (by decide) ?_
    refine va_ldcS hx hb hown (hU.2.2.2.2.2 0 (by decide)) dX8_name_32 ?_
    exact W.aret hx hb hr (Or.inl ⟨_, rfl⟩) (Or.inr ⟨_, rfl⟩) (fun t ht hW => ⟨⟨(), _, rfl, trivial, by unfold zNi; rw [if_pos c0]⟩, hS.F ht⟩) hS.2.2 dX8_name_34
  have n0 : ¬ p1.toInt = 0 := lv_neT c0 rfl
  by_cases c1 : p1 = 1
  · refine lv_tableIn (tgt := 35) hx hb dX8_name_1 (by rw [c1]; decide) (by rw [c1]; decide) (by rw [c1]; rfl) (by decide) ?_
    refine va_ldcS hx hb hown (hU.2.2.2.2.2 1 (by decide)) dX8_name_35 ?_
    exact W.aret hx hb hr (Or.inl ⟨_, rfl⟩) (Or.inr ⟨_, rfl⟩) (fun t ht hW => ⟨⟨(), _, rfl, trivial, by unfold zNi; rw [if_neg c0, if_pos c1]⟩, hS.F ht⟩) hS.2.2 dX8_name_37
  have n1 : ¬ p1.toInt = 1 := lv_neT c1 rfl
  by_cases c2 : p1 = 2
  · refine lv_tableIn (tgt := 38) hx hb dX8_name_1 (by rw [c2]; decide) (by rw [c2]; decide) (by rw [c2]; rfl) (by decide) ?_
    refine va_ldcS hx hb hown (hU.2.2.2.2.2 2 (by decide)) dX8_name_38 ?_
    exact W.aret hx hb hr (Or.inl ⟨_, rfl⟩) (Or.inr ⟨_, rfl⟩) (fun t ht hW => ⟨⟨(), _, rfl, trivial, by unfold zNi; rw [if_neg c0, if_neg c1, if_pos c2]⟩, hS.F ht⟩) hS.2.2 dX8_name_40
  have n2 : ¬ p1.toInt = 2 := lv_neT c2 rfl
  by_cases c3 : p1 = 3
  · refine lv_tableIn (tgt := 41) hx hb dX8_name_1 (by rw [c3]; decide) (by rw [c3]; decide) (by rw [c3]; rfl) (by decide) ?_
    refine va_ldcS hx hb hown (hU.2.2.2.2.2 3 (by decide)) dX8_name_41 ?_
    exact W.aret hx hb hr (Or.inl ⟨_, rfl⟩) (Or.inr ⟨_, rfl⟩) (fun t ht hW => ⟨⟨(), _, rfl, trivial, by unfold zNi; rw [if_neg c0, if_neg c1, if_neg c2, if_pos c3]⟩, hS.F ht⟩) hS.2.2 dX8_name_43
  have n3 : ¬ p1.toInt = 3 := lv_neT c3 rfl
  refine lv_tableOut (tgt := 44) hx hb dX8_name_1 (by omega) (by decide) ?_
  refine va_ldcS hx hb hown (hU.2.2.2.2.2 4 (by decide)) dX8_name_44 ?_
  exact W.aret hx hb hr (Or.inl ⟨_, rfl⟩) (Or.inr ⟨_, rfl⟩) (fun t ht hW => ⟨⟨(), _, rfl, trivial, by unfold zNi; rw [if_neg c0, if_neg c1, if_neg c2, if_neg c3]⟩, hS.F ht⟩) hS.2.2 dX8_name_46
def wpX8_need (fr : Nat → Int32) (p1 p2 : Int32) (Q : Prop) (QT : Int32 → Int32 → Prop) : Prop := (p1 = 0 → QT p2 (fr 4)) ∧ (¬ p1 = 0 → Q)
set_option maxHeartbeats 4000000 in
theorem metX8_need (l : Launch) (htr : l.stackTraces = false) (D : va_G) (kk : Nat → ClassId) (sg : Nat → Nat) (ad : Nat → Nat) (ra : Nat) (rm : Nat) (sz : Nat) (fr : Nat → Int32) (p1 p2 : Int32) (Q : Prop) (QT : Int32 → Int32 → Prop) (h : wpX8_need fr p1 p2 Q QT) : MetX l yX8_need (Cond.code yX8_need cX8_need 3 none :: lw_all) { frames := 4, cells := 1, slots := 8, locals := 112 } (va_Pc ([.ref ra, .int p1, .int p2] : List Value) (zPF D kk sg [zRd ad ra rm fr] sz)) (zQX (fun _ : Unit => none) (fun (_ : Unit) (u : Unit) => Q) (zB D (va_A [zRd ad ra rm fr] sz) (fun u : Unit => [zRd ad ra rm fr])) (fun (u : (Int32 × Int32) × (Unit)) => QT u.1.1 u.1.2) (zBT D (va_A [zRd ad ra rm fr] sz) (fun (x : Nat) (u : (Int32 × Int32) × (Unit)) => [zRd ad ra rm fr, zF x u.1.1 u.1.2]) (fun _ => "LoseLeague$Fault")) (va_A [zRd ad ra rm fr] sz)) 1 8 (va_A [zRd ad ra rm fr] sz) := by
  refine zMetFX (Qc := fun A => zQX (fun _ : Unit => none) (fun (_ : Unit) (u : Unit) => Q) (zB D A (fun u : Unit => [zRd ad ra rm fr])) (fun (u : (Int32 × Int32) × (Unit)) => QT u.1.1 u.1.2) (zBT D A (fun (x : Nat) (u : (Int32 × Int32) × (Unit)) => [zRd ad ra rm fr, zF x u.1.1 u.1.2]) (fun _ => "LoseLeague$Fault")) A) htr (by decide) (Or.inl ⟨rfl, rfl⟩) (Nat.le_of_ble_eq_true rfl) ?_
  intro p e s m below meth c A X hh hU htab had hP hD hS ls hl
  obtain ⟨hx, hb, hr, hml, hown, hts, hlk, hnm, hK, hN, hA⟩ := X
  have hown : s.vm.findClass "LoseLeague$Reader" = some m.cls := hown
  have hl : lv_has ls 3 [(0, .ref ra), (1, .int p1), (2, .int p2)] := hl
  have hout : ∀ (pcc : Nat), ∀ y ∈ c.exceptionTable.toList, covers y pcc = false := by
    intro pcc y hy
    rw [List.map_eq_nil_iff.mp htab] at hy
    cases hy
  unfold wpX8_need at h
  refine lv_iload_n hx hb dX8_need_0 rfl (lv_at hl 1 rfl) ?_
  refine lv_if_ne (tgt := 17) hx hb dX8_need_1 (by decide) (fun c1 => ?_) (fun c1 => ?_)
  · refine W.widen (k := 1) (n := 8) (Nat.le_of_ble_eq_true rfl) (Nat.le_of_ble_eq_true rfl) ?_
    exact zx_v hx hb hr hlk hP hD hS () [0] rfl (by decide) dX8_need_17 (h.2 c1)
  · have h := h.1 c1
    refine va_new (ci := 9) (fs := [.null, .null, .null, .null, .null, .int 0, .int 0, .int 0]) (C := RX9) (T := TX9) (N := 8) hx hb hts in_X9 tyX9 tyX9_ok hown (hts _ q286) (hts _ q287) (hts _ q75) hK hP hD hS hA rfl (fun j hj => by rcases (show j = 0 ∨ j = 1 ∨ j = 2 ∨ j = 3 ∨ j = 4 ∨ j = 5 ∨ j = 6 ∨ j = 7 by omega) with rfl | rfl | rfl | rfl | rfl | rfl | rfl | rfl <;> rfl) (Nat.le_of_ble_eq_true rfl) (Nat.le_of_ble_eq_true rfl) dX8_need_4 (fun q H hP hD hS => ?_)
    have hP : va_P D vwCl [zRd ad ra rm fr, zF q 0 0] H := hP
    have hD : va_D A [zRd ad ra rm fr, zF q 0 0] := hD
    refine lv_dup hx hb dX8_need_7 rfl ?_
    refine lv_iload_n hx hb dX8_need_8 rfl (lv_at hl 2 rfl) ?_
    refine lv_aload_n hx hb dX8_need_9 rfl (lv_at hl 0 rfl) ?_
    refine va_get (D := D) (ci := 8) (v := .int (fr 4)) (C := RX8) (T := TX8) (N := 8) hx hb hts in_X8 hown hK hP 0 rfl rfl 4 (Nat.le_of_ble_eq_true rfl) (hts _ q375) (fun _ h9 => h9) rfl dX8_need_10 ?_
    refine zc_v (wc := [zF q 0 0]) (wr := [zRd ad ra rm fr]) (w1 := fun _ : Unit => [zF q p2 (fr 4)]) (rest := [.ref q]) [1] [0] rfl rfl (by decide) (by decide) (by decide) hA hP hD hS (fun hP hD => va_runI (As := [.int p2, .int (fr 4)]) (rest := [.ref q]) ⟨hx, hb, hml, hown, hts⟩ (metX9_init l htr D kk sg _ q p2 (fr 4)) (cwI 2 hts (lw_meth q342) rfl rfl rfl (hts _ q75) (hts _ q340) (hts _ q341) rfl pdX9_init.2 ⟨(Nat.le_of_ble_eq_true rfl), (Nat.le_of_ble_eq_true rfl)⟩) (zpf_S hK hN hh.2.2.2.1 hU hA hS hh.2.2.2.2.2 hP hD) rfl rfl hl.1 rfl (lv_room (Nat.le_of_ble_eq_true rfl)) dX8_need_13 ⟨(Nat.le_of_ble_eq_true rfl), (Nat.le_of_ble_eq_true rfl)⟩) (fun u H locs _ hP hD hS => ?_)
    have hP : va_P D vwCl [zRd ad ra rm fr, zF q p2 (fr 4)] H := hP
    have hD : va_D A [zRd ad ra rm fr, zF q p2 (fr 4)] := hD
    have hrc := va_recv hK hP (ci := 9) (q0 := 1) rfl rfl
    refine z_athrow hx hb dX8_need_16 ?_
    refine WT.widen (k := 1) (n := 8) (Nat.le_of_ble_eq_true rfl) (Nat.le_of_ble_eq_true rfl) ?_
    exact zx_thr hlk (hout _) hP hD hS ((p2, fr 4), ()) [0, 1] rfl (by decide) hrc h
def wpX8_isIn (fr : Nat → Int32) (tape : Nat → Int32) (p1 : Int32) (p2 : Int32) (Q : Int32 → Prop) : Prop :=
  (((fr 0) ≤ (fr 3) → Q (0 : Int32)) ∧ (¬ (fr 0) ≤ (fr 3) → (vp_in (fr 3) 160 ∧ (((tape (fr 3).toNatClampNeg) < p1 → Q (0 : Int32)) ∧ (¬ (tape (fr 3).toNatClampNeg) < p1 → (vp_in (fr 3) 160 ∧ ((p2 < (tape (fr 3).toNatClampNeg) → Q (0 : Int32)) ∧ (¬ p2 < (tape (fr 3).toNatClampNeg) → Q (1 : Int32)))))))))
set_option maxHeartbeats 4000000 in
theorem metX8_isIn (l : Launch) (D : va_G) (kk : Nat → ClassId) (ad : Nat → Nat) (ra : Nat) (rm : Nat) (sz : Nat) (fr : Nat → Int32) (f : Nat → Int32) (g : Nat → Int64) (tape : Nat → Int32) (p1 : Int32) (p2 : Int32) (Q : Int32 → Prop) (h : wpX8_isIn fr tape p1 p2 Q) : Met l yX8_isIn (ws_ yX8_isIn cX8_isIn 3 (some .boolean)) { frames := 0, cells := 0, slots := 0, locals := 0 } (va_Pc ([.ref ra, .int p1, .int p2] : List Value) (zPc D kk [zRd ad ra rm fr, zO ad f g, zA (kk 0) (ad 20) 160 tape] sz)) (va_Qi (fun (r : Int32) (u : Unit) => Q r ) (zB D (va_A [zRd ad ra rm fr, zO ad f g, zA (kk 0) (ad 20) 160 tape] sz) (fun u : Unit => [zRd ad ra rm fr, zO ad f g, zA (kk 0) (ad 20) 160 tape])) (va_A [zRd ad ra rm fr, zO ad f g, zA (kk 0) (ad 20) 160 tape] sz)) 0 0 (va_A [zRd ad ra rm fr, zO ad f g, zA (kk 0) (ad 20) 160 tape] sz) := by
  refine zMet (Qc := fun A => va_Qi (fun (r : Int32) (u : Unit) => Q r ) (zB D A (fun u : Unit => [zRd ad ra rm fr, zO ad f g, zA (kk 0) (ad 20) 160 tape])) A) (by decide) (Nat.le_of_ble_eq_true rfl) ?_
  intro p e s m below meth c A X hP hD hS ls hl
  obtain ⟨hx, hb, hr, hml, hown, hts, hlk, hnm, hK, hN, hA⟩ := X
  have hown : s.vm.findClass "LoseLeague$Reader" = some m.cls := hown
  have hl : lv_has ls 3 [(0, .ref ra), (1, .int p1), (2, .int p2)] := hl
  unfold wpX8_isIn at h
  refine lv_aload_n hx hb dX8_isIn_0 rfl (lv_at hl 0 rfl) ?_
  refine va_get (D := D) (ci := 8) (v := .int (fr 3)) (C := RX8) (T := TX8) (N := 8) hx hb hts in_X8 hown hK hP 0 rfl rfl 3 (Nat.le_of_ble_eq_true rfl) (hts _ q374) (fun _ h9 => h9) rfl dX8_isIn_1 ?_
  refine lv_aload_n hx hb dX8_isIn_4 rfl (lv_at hl 0 rfl) ?_
  refine va_get (D := D) (ci := 8) (v := .int (fr 0)) (C := RX8) (T := TX8) (N := 8) hx hb hts in_X8 hown hK hP 0 rfl rfl 0 (Nat.le_of_ble_eq_true rfl) (hts _ q370) (fun _ h9 => h9) rfl dX8_isIn_5 ?_
  refine lv_icmp_ge (tgt := 47) hx hb dX8_isIn_8 (by decide) (fun c_1 => ?_) (fun c_1 => ?_)
  · have h := h.1 c_1
    refine lv_iconst (v := (0 : Int32)) hx hb dX8_isIn_47 (by decide) ?_
    exact zr_i hx hb hr hlk rfl hP hD hS () [0, 1, 2] rfl (by decide) dX8_isIn_48 h
  · have h := h.2 c_1
    refine lv_aload_n hx hb dX8_isIn_11 rfl (lv_at hl 0 rfl) ?_
    refine va_get (D := D) (ci := 8) (v := .ref (ad 0)) (C := RX8) (T := TX8) (N := 8) hx hb hts in_X8 hown hK hP 0 rfl rfl 7 (Nat.le_of_ble_eq_true rfl) (hts _ q378) (fun _ h9 => h9) rfl dX8_isIn_12 ?_
    refine va_getN (D := D) (ci := 0) (v := .ref (ad 20)) (C := RX0) (T := TX0) (N := 25) hx hb hts in_X0 hown hK hP 1 rfl rfl 11 (Nat.le_of_ble_eq_true rfl) (zN_f hN 8 rfl rfl) (fun _ h9 => h9) rfl dX8_isIn_15 ?_
    refine lv_aload_n hx hb dX8_isIn_18 rfl (lv_at hl 0 rfl) ?_
    refine va_get (D := D) (ci := 8) (v := .int (fr 3)) (C := RX8) (T := TX8) (N := 8) hx hb hts in_X8 hown hK hP 0 rfl rfl 3 (Nat.le_of_ble_eq_true rfl) (hts _ q374) (fun _ h9 => h9) rfl dX8_isIn_19 ?_
    obtain ⟨hin, h⟩ := h
    refine va_bald hx hb hK hP 2 0 rfl rfl hin dX8_isIn_22 ?_
    refine lv_iload_n hx hb dX8_isIn_23 rfl (lv_at hl 1 rfl) ?_
    refine lv_icmp_lt (tgt := 47) hx hb dX8_isIn_24 (by decide) (fun c_2 => ?_) (fun c_2 => ?_)
    · have h := h.1 c_2
      refine lv_iconst (v := (0 : Int32)) hx hb dX8_isIn_47 (by decide) ?_
      exact zr_i hx hb hr hlk rfl hP hD hS () [0, 1, 2] rfl (by decide) dX8_isIn_48 h
    · have h := h.2 c_2
      refine lv_aload_n hx hb dX8_isIn_27 rfl (lv_at hl 0 rfl) ?_
      refine va_get (D := D) (ci := 8) (v := .ref (ad 0)) (C := RX8) (T := TX8) (N := 8) hx hb hts in_X8 hown hK hP 0 rfl rfl 7 (Nat.le_of_ble_eq_true rfl) (hts _ q378) (fun _ h9 => h9) rfl dX8_isIn_28 ?_
      refine va_getN (D := D) (ci := 0) (v := .ref (ad 20)) (C := RX0) (T := TX0) (N := 25) hx hb hts in_X0 hown hK hP 1 rfl rfl 11 (Nat.le_of_ble_eq_true rfl) (zN_f hN 8 rfl rfl) (fun _ h9 => h9) rfl dX8_isIn_31 ?_
      refine lv_aload_n hx hb dX8_isIn_34 rfl (lv_at hl 0 rfl) ?_
      refine va_get (D := D) (ci := 8) (v := .int (fr 3)) (C := RX8) (T := TX8) (N := 8) hx hb hts in_X8 hown hK hP 0 rfl rfl 3 (Nat.le_of_ble_eq_true rfl) (hts _ q374) (fun _ h9 => h9) rfl dX8_isIn_35 ?_
      obtain ⟨hin, h⟩ := h
      refine va_bald hx hb hK hP 2 0 rfl rfl hin dX8_isIn_38 ?_
      refine lv_iload_n hx hb dX8_isIn_39 rfl (lv_at hl 2 rfl) ?_
      refine lv_icmp_gt (tgt := 47) hx hb dX8_isIn_40 (by decide) (fun c_3 => ?_) (fun c_3 => ?_)
      · have h := h.1 c_3
        refine lv_iconst (v := (0 : Int32)) hx hb dX8_isIn_47 (by decide) ?_
        exact zr_i hx hb hr hlk rfl hP hD hS () [0, 1, 2] rfl (by decide) dX8_isIn_48 h
      · have h := h.2 c_3
        refine lv_iconst (v := (1 : Int32)) hx hb dX8_isIn_43 (by decide) ?_
        refine lv_goto (tgt := 48) hx hb dX8_isIn_44 (by decide) ?_
        exact zr_i hx hb hr hlk rfl hP hD hS () [0, 1, 2] rfl (by decide) dX8_isIn_48 h
def wpX8_is_81 (fr : Nat → Int32) (tape : Nat → Int32) (p1 : Int32) (Q : Int32 → Prop) (k39 : Int32 → Int32 → Prop) (x4 : Int32) (s0 : Int32) : Prop :=
  k39 s0 (x4 + 1)
def wbX8_is_39 (fr : Nat → Int32) (tape : Nat → Int32) (p1 : Int32) (Q : Int32 → Prop) (k39 : Int32 → Int32 → Prop) (x3 : Int32) (x4 : Int32) : Prop :=
  ((x3 = 0 → (narrow .boolean (.int x3) = .int x3 ∧ Q x3)) ∧ (¬ x3 = 0 → (zLen (zNi p1)  (fun r_2 => ((r_2 ≤ x4 → (narrow .boolean (.int x3) = .int x3 ∧ Q x3)) ∧ (¬ r_2 ≤ x4 → (vp_in ((fr 4) + x4) 160 ∧ (zChOk (zNi p1) x4 (fun r_4 => (((tape ((fr 4) + x4).toNatClampNeg) = r_4 → wpX8_is_81 fr tape p1 Q k39 x4 (1 : Int32)) ∧ (¬ (tape ((fr 4) + x4).toNatClampNeg) = r_4 → wpX8_is_81 fr tape p1 Q k39 x4 (0 : Int32))))))))))))
def wpX8_is_39 (fr : Nat → Int32) (tape : Nat → Int32) (p1 : Int32) (Q : Int32 → Prop) (n : Nat) : Int32 → Int32 → Prop :=
  Nat.rec (motive := fun _ => Int32 → Int32 → Prop) (fun _ _ => False) (fun _ k => wbX8_is_39 fr tape p1 Q  k) n
def wpX8_is_35 (fr : Nat → Int32) (tape : Nat → Int32) (p1 : Int32) (Q : Int32 → Prop) (s0 : Int32) : Prop :=
  (∃ n : Nat, wpX8_is_39 fr tape p1 Q  n s0 (0 : Int32))
def wpX8_is_34 (fr : Nat → Int32) (tape : Nat → Int32) (p1 : Int32) (Q : Int32 → Prop) : Prop :=
  wpX8_is_35 fr tape p1 Q  (0 : Int32)
def wpX8_is (fr : Nat → Int32) (tape : Nat → Int32) (p1 : Int32) (Q : Int32 → Prop) : Prop :=
  (((fr 5) = (1 : Int32) → (zLen (zNi p1)  (fun r_7 => ((((fr 3) - (fr 4)) = r_7 → wpX8_is_35 fr tape p1 Q  (1 : Int32)) ∧ (¬ ((fr 3) - (fr 4)) = r_7 → wpX8_is_34 fr tape p1 Q ))))) ∧ (¬ (fr 5) = (1 : Int32) → wpX8_is_34 fr tape p1 Q ))
set_option maxHeartbeats 4000000 in
theorem metX8_is (l : Launch) (htr : l.stackTraces = false) (D : va_G) (kk : Nat → ClassId) (sg : Nat → Nat) (ad : Nat → Nat) (ra : Nat) (rm : Nat) (sz : Nat) (fr : Nat → Int32) (f : Nat → Int32) (g : Nat → Int64) (tape : Nat → Int32) (p1 : Int32) (Q : Int32 → Prop) (h : wpX8_is fr tape p1 Q) : Met l yX8_is (ws_ yX8_is cX8_is 5 (some .boolean)) { frames := 4, cells := 0, slots := 0, locals := 111 } (va_Pc ([.ref ra, .int p1] : List Value) (zPF D kk sg [zRd ad ra rm fr, zO ad f g, zA (kk 0) (ad 20) 160 tape] sz)) (va_Qi (fun (r : Int32) (u : Unit) => Q r ) (zB D (va_A [zRd ad ra rm fr, zO ad f g, zA (kk 0) (ad 20) 160 tape] sz) (fun u : Unit => [zRd ad ra rm fr, zO ad f g, zA (kk 0) (ad 20) 160 tape])) (va_A [zRd ad ra rm fr, zO ad f g, zA (kk 0) (ad 20) 160 tape] sz)) 0 0 (va_A [zRd ad ra rm fr, zO ad f g, zA (kk 0) (ad 20) 160 tape] sz) := by
  refine zMetF (Qc := fun A => va_Qi (fun (r : Int32) (u : Unit) => Q r ) (zB D A (fun u : Unit => [zRd ad ra rm fr, zO ad f g, zA (kk 0) (ad 20) 160 tape])) A) htr (by decide) (Nat.le_of_ble_eq_true rfl) ?_
  intro p e s m below meth c A X hh hU hP hD hS ls hl
  obtain ⟨hx, hb, hr, hml, hown, hts, hlk, hnm, hK, hN, hA⟩ := X
  have hown : s.vm.findClass "LoseLeague$Reader" = some m.cls := hown
  have hl : lv_has ls 5 [(0, .ref ra), (1, .int p1)] := hl
  unfold wpX8_is at h
  refine lv_aload_n hx hb dX8_is_0 rfl (lv_at hl 0 rfl) ?_
  refine lv_iload_n hx hb dX8_is_1 rfl (lv_at hl 1 rfl) ?_
  have hrc := va_recv hK hP (ci := 8) (q0 := 0) rfl rfl
  refine zc_r0 (ra := sg (zNi p1)) (rest := []) hA hP hD hS (fun hP hD => va_runV (As := [.int p1]) (rest := []) ⟨hx, hb, hml, hown, hts⟩ (metX8_name l htr D kk sg ra _ p1) (cwV 1 hts (lw_V q408 q410 qs7 q72 q411) rfl rfl rfl pdX8_name ⟨(Nat.le_of_ble_eq_true rfl), (Nat.le_of_ble_eq_true rfl)⟩) (zpf_V hK hN hh.2.2.2.1 hU hA hS hh.2.2.2.2.2 hrc hP hD) rfl rfl hl.1 rfl (lv_room (Nat.le_of_ble_eq_true rfl)) dX8_is_2 ⟨(Nat.le_of_ble_eq_true rfl), (Nat.le_of_ble_eq_true rfl)⟩) (fun H locs hP hD hS => ?_)
  refine lv_astore_n (lv' := [(2, .ref (sg (zNi p1))), (0, .ref ra), (1, .int p1)]) hx hb dX8_is_5 rfl hl (by decide) rfl (fun ls hl => ?_)
  refine lv_aload_n hx hb dX8_is_6 rfl (lv_at hl 1 rfl) ?_
  refine va_get (D := D) (ci := 8) (v := .int (fr 5)) (C := RX8) (T := TX8) (N := 8) hx hb hts in_X8 hown hK hP 0 rfl rfl 5 (Nat.le_of_ble_eq_true rfl) (hts _ q376) (fun _ h9 => h9) rfl dX8_is_7 ?_
  refine lv_iconst (v := (1 : Int32)) hx hb dX8_is_10 (by decide) ?_
  have cut_35 : ∀ (s0 : Int32), wpX8_is_35 fr tape p1 Q  s0 → ∀ (H : Heap) (locs : List Loc), va_P D vwCl [zRd ad ra rm fr, zO ad f g, zA (kk 0) (ad 20) 160 tape] H → va_D A [zRd ad ra rm fr, zO ad f g, zA (kk 0) (ad 20) 160 tape] → va_S A s.heap H locs → ∀ ls : Array Slot, lv_has ls 5 [(0, .ref ra), (2, .ref (sg (zNi p1)))] → W p l e { frames := 4, cells := 0, slots := 0, locals := 111 } s m ([.ref ra, .int p1] : List Value).toArray below meth c H locs 0 0 (MQ below (va_Qi (fun (r : Int32) (u : Unit) => Q r ) (zB D A (fun u : Unit => [zRd ad ra rm fr, zO ad f g, zA (kk 0) (ad 20) 160 tape])) A) ([.ref ra, .int p1] : List Value).toArray s 0 0 A) (F0 m 35 ls [.int s0]) := by
    intro s0 h H locs hP hD hS ls hl
    unfold wpX8_is_35 at h
    refine lv_istore_n (lv' := [(3, .int s0), (0, .ref ra), (2, .ref (sg (zNi p1)))]) hx hb dX8_is_35 rfl hl (by decide) rfl (fun ls hl => ?_)
    refine lv_iconst (v := (0 : Int32)) hx hb dX8_is_36 (by decide) ?_
    have cut_39 : ∀ (nl39 : Nat) (x3 : Int32) (x4 : Int32), wpX8_is_39 fr tape p1 Q  nl39 x3 x4 → ∀ (H : Heap) (locs : List Loc), va_P D vwCl [zRd ad ra rm fr, zO ad f g, zA (kk 0) (ad 20) 160 tape] H → va_D A [zRd ad ra rm fr, zO ad f g, zA (kk 0) (ad 20) 160 tape] → va_S A s.heap H locs → ∀ ls : Array Slot, lv_has ls 5 [(3, .int x3), (4, .int x4), (0, .ref ra), (2, .ref (sg (zNi p1)))] → W p l e { frames := 4, cells := 0, slots := 0, locals := 111 } s m ([.ref ra, .int p1] : List Value).toArray below meth c H locs 0 0 (MQ below (va_Qi (fun (r : Int32) (u : Unit) => Q r ) (zB D A (fun u : Unit => [zRd ad ra rm fr, zO ad f g, zA (kk 0) (ad 20) 160 tape])) A) ([.ref ra, .int p1] : List Value).toArray s 0 0 A) (F0 m 39 ls []) := by
      intro nl39
      induction nl39 with
      | zero => intro x3 x4 h; exact absurd h id
      | succ nl39 ih_39 =>
        intro x3 x4 h H locs hP hD hS ls hl
        have h : wbX8_is_39 fr tape p1 Q  (wpX8_is_39 fr tape p1 Q  nl39) x3 x4 := h
        unfold wbX8_is_39 at h
        refine lv_iload_n hx hb dX8_is_39 rfl (lv_at hl 0 rfl) ?_
        refine lv_if_eq (tgt := 88) hx hb dX8_is_40 (by decide) (fun c_1 => ?_) (fun c_1 => ?_)
        · have h := h.1 c_1
          refine lv_iload_n hx hb dX8_is_88 rfl (lv_at hl 0 rfl) ?_
          obtain ⟨hnar, h⟩ := h
          exact zr_i hx hb hr hlk hnar hP hD hS () [0, 1, 2] rfl (by decide) dX8_is_89 h
        · have h := h.2 c_1
          refine lv_iload hx hb dX8_is_43 (lv_at hl 1 rfl) ?_
          refine lv_aload_n hx hb dX8_is_45 rfl (lv_at hl 3 rfl) ?_
          have hrc := vk_recv hU.2.2.2.2.1 (i := zNi p1) (zNi_lt _) hS
          refine zc_i (wc := []) (wr := [zRd ad ra rm fr, zO ad f g, zA (kk 0) (ad 20) 160 tape]) (w1 := fun _ : Unit => []) (rest := [.int x4]) [] [0, 1, 2] rfl rfl (by decide) (by decide) (by decide) hA hP hD hS (fun hP hD => va_runV (As := []) (rest := [.int x4]) ⟨hx, hb, hml, hown, hts⟩ (metJ2_length l htr D kk sg _ (zNi p1) (zNi_lt _)  _ h) (cwV 0 hts (lw_V q417 q418 q419 q76 q420) rfl rfl rfl pdJ2_length ⟨(Nat.le_of_ble_eq_true rfl), (Nat.le_of_ble_eq_true rfl)⟩) (zpf_V hK hN hh.2.2.2.1 hU hA hS hh.2.2.2.2.2 hrc hP hD) rfl rfl hl.1 rfl (lv_room (Nat.le_of_ble_eq_true rfl)) dX8_is_46 ⟨(Nat.le_of_ble_eq_true rfl), (Nat.le_of_ble_eq_true rfl)⟩) (fun r_2 u H locs h hP hD hS => ?_)
          try dsimp only at h
          have hP : va_P D vwCl [zRd ad ra rm fr, zO ad f g, zA (kk 0) (ad 20) 160 tape] H := hP
          have hD : va_D A [zRd ad ra rm fr, zO ad f g, zA (kk 0) (ad 20) 160 tape] := hD
          refine lv_icmp_ge (tgt := 88) hx hb dX8_is_49 (by decide) (fun c_3 => ?_) (fun c_3 => ?_)
          · have h := h.1 c_3
            refine lv_iload_n hx hb dX8_is_88 rfl (lv_at hl 0 rfl) ?_
            obtain ⟨hnar, h⟩ := h
            exact zr_i hx hb hr hlk hnar hP hD hS () [0, 1, 2] rfl (by decide) dX8_is_89 h
          · have h := h.2 c_3
            refine lv_aload_n hx hb dX8_is_52 rfl (lv_at hl 2 rfl) ?_
            refine va_get (D := D) (ci := 8) (v := .ref (ad 0)) (C := RX8) (T := TX8) (N := 8) hx hb hts in_X8 hown hK hP 0 rfl rfl 7 (Nat.le_of_ble_eq_true rfl) (hts _ q378) (fun _ h9 => h9) rfl dX8_is_53 ?_
            refine va_getN (D := D) (ci := 0) (v := .ref (ad 20)) (C := RX0) (T := TX0) (N := 25) hx hb hts in_X0 hown hK hP 1 rfl rfl 11 (Nat.le_of_ble_eq_true rfl) (zN_f hN 8 rfl rfl) (fun _ h9 => h9) rfl dX8_is_56 ?_
            refine lv_aload_n hx hb dX8_is_59 rfl (lv_at hl 2 rfl) ?_
            refine va_get (D := D) (ci := 8) (v := .int (fr 4)) (C := RX8) (T := TX8) (N := 8) hx hb hts in_X8 hown hK hP 0 rfl rfl 4 (Nat.le_of_ble_eq_true rfl) (hts _ q375) (fun _ h9 => h9) rfl dX8_is_60 ?_
            refine lv_iload hx hb dX8_is_63 (lv_at hl 1 rfl) ?_
            refine lv_iadd hx hb dX8_is_65 ?_
            obtain ⟨hin, h⟩ := h
            refine va_bald hx hb hK hP 2 0 rfl rfl hin dX8_is_66 ?_
            refine lv_aload_n hx hb dX8_is_67 rfl (lv_at hl 3 rfl) ?_
            refine lv_iload hx hb dX8_is_68 (lv_at hl 1 rfl) ?_
            have hrc := vk_recv hU.2.2.2.2.1 (i := zNi p1) (zNi_lt _) hS
            refine zc_i (wc := []) (wr := [zRd ad ra rm fr, zO ad f g, zA (kk 0) (ad 20) 160 tape]) (w1 := fun _ : Unit => []) (rest := [.int (tape ((fr 4) + x4).toNatClampNeg)]) [] [0, 1, 2] rfl rfl (by decide) (by decide) (by decide) hA hP hD hS (fun hP hD => va_runV (As := [.int x4]) (rest := [.int (tape ((fr 4) + x4).toNatClampNeg)]) ⟨hx, hb, hml, hown, hts⟩ (metJ2_charAt l htr D kk sg _ (zNi p1) (zNi_lt _) x4 _ h) (cwV 1 hts (lw_V q427 q428 q429 q76 q430) rfl rfl rfl pdJ2_charAt ⟨(Nat.le_of_ble_eq_true rfl), (Nat.le_of_ble_eq_true rfl)⟩) (zpf_V hK hN hh.2.2.2.1 hU hA hS hh.2.2.2.2.2 hrc hP hD) rfl rfl hl.1 rfl (lv_room (Nat.le_of_ble_eq_true rfl)) dX8_is_70 ⟨(Nat.le_of_ble_eq_true rfl), (Nat.le_of_ble_eq_true rfl)⟩) (fun r_4 u H locs h hP hD hS => ?_)
            try dsimp only at h
            have hP : va_P D vwCl [zRd ad ra rm fr, zO ad f g, zA (kk 0) (ad 20) 160 tape] H := hP
            have hD : va_D A [zRd ad ra rm fr, zO ad f g, zA (kk 0) (ad 20) 160 tape] := hD
            have cut_81 : ∀ (x4 : Int32) (s0 : Int32), wpX8_is_81 fr tape p1 Q (wpX8_is_39 fr tape p1 Q  nl39) x4 s0 → ∀ (H : Heap) (locs : List Loc), va_P D vwCl [zRd ad ra rm fr, zO ad f g, zA (kk 0) (ad 20) 160 tape] H → va_D A [zRd ad ra rm fr, zO ad f g, zA (kk 0) (ad 20) 160 tape] → va_S A s.heap H locs → ∀ ls : Array Slot, lv_has ls 5 [(4, .int x4), (0, .ref ra), (2, .ref (sg (zNi p1)))] → W p l e { frames := 4, cells := 0, slots := 0, locals := 111 } s m ([.ref ra, .int p1] : List Value).toArray below meth c H locs 0 0 (MQ below (va_Qi (fun (r : Int32) (u : Unit) => Q r ) (zB D A (fun u : Unit => [zRd ad ra rm fr, zO ad f g, zA (kk 0) (ad 20) 160 tape])) A) ([.ref ra, .int p1] : List Value).toArray s 0 0 A) (F0 m 81 ls [.int s0]) := by
              intro x4 s0 h H locs hP hD hS ls hl
              unfold wpX8_is_81 at h
              refine lv_istore_n (lv' := [(3, .int s0), (4, .int x4), (0, .ref ra), (2, .ref (sg (zNi p1)))]) hx hb dX8_is_81 rfl hl (by decide) rfl (fun ls hl => ?_)
              refine lv_iinc (v := (x4 + 1)) (lv' := [(4, .int (x4 + 1)), (3, .int s0), (0, .ref ra), (2, .ref (sg (zNi p1)))]) hx hb dX8_is_82 hl (k := 1) rfl rfl (by decide) rfl (fun ls hl => ?_)
              refine lv_goto (tgt := 39) hx hb dX8_is_85 (by decide) ?_
              exact ih_39 s0 (x4 + 1) h _ _ hP hD hS _ (lv_sub hl [1, 0, 2, 3] rfl)
            refine lv_icmp_ne (tgt := 80) hx hb dX8_is_73 (by decide) (fun c_5 => ?_) (fun c_5 => ?_)
            · have h := h.2 c_5
              refine lv_iconst (v := (0 : Int32)) hx hb dX8_is_80 (by decide) ?_
              exact cut_81 x4 (0 : Int32) h _ _ hP hD hS _ (lv_sub hl [1, 2, 3] rfl)
            · have h := h.1 c_5
              refine lv_iconst (v := (1 : Int32)) hx hb dX8_is_76 (by decide) ?_
              refine lv_goto (tgt := 81) hx hb dX8_is_77 (by decide) ?_
              exact cut_81 x4 (1 : Int32) h _ _ hP hD hS _ (lv_sub hl [1, 2, 3] rfl)
    refine lv_istore (lv' := [(4, .int (0 : Int32)), (3, .int s0), (0, .ref ra), (2, .ref (sg (zNi p1)))]) hx hb dX8_is_37 hl (by decide) rfl (fun ls hl => ?_)
    obtain ⟨n_39, h⟩ := h
    exact cut_39 n_39 s0 (0 : Int32) h _ _ hP hD hS _ (lv_sub hl [1, 0, 2, 3] rfl)
  have cut_34 : wpX8_is_34 fr tape p1 Q  → ∀ (H : Heap) (locs : List Loc), va_P D vwCl [zRd ad ra rm fr, zO ad f g, zA (kk 0) (ad 20) 160 tape] H → va_D A [zRd ad ra rm fr, zO ad f g, zA (kk 0) (ad 20) 160 tape] → va_S A s.heap H locs → ∀ ls : Array Slot, lv_has ls 5 [(0, .ref ra), (2, .ref (sg (zNi p1)))] → W p l e { frames := 4, cells := 0, slots := 0, locals := 111 } s m ([.ref ra, .int p1] : List Value).toArray below meth c H locs 0 0 (MQ below (va_Qi (fun (r : Int32) (u : Unit) => Q r ) (zB D A (fun u : Unit => [zRd ad ra rm fr, zO ad f g, zA (kk 0) (ad 20) 160 tape])) A) ([.ref ra, .int p1] : List Value).toArray s 0 0 A) (F0 m 34 ls []) := by
    intro h H locs hP hD hS ls hl
    unfold wpX8_is_34 at h
    refine lv_iconst (v := (0 : Int32)) hx hb dX8_is_34 (by decide) ?_
    exact cut_35 (0 : Int32) h _ _ hP hD hS _ (lv_sub hl [0, 1] rfl)
  refine lv_icmp_ne (tgt := 34) hx hb dX8_is_11 (by decide) (fun c_6 => ?_) (fun c_6 => ?_)
  · have h := h.2 c_6
    exact cut_34 h _ _ hP hD hS _ (lv_sub hl [1, 0] rfl)
  · have h := h.1 c_6
    refine lv_aload_n hx hb dX8_is_14 rfl (lv_at hl 1 rfl) ?_
    refine va_get (D := D) (ci := 8) (v := .int (fr 3)) (C := RX8) (T := TX8) (N := 8) hx hb hts in_X8 hown hK hP 0 rfl rfl 3 (Nat.le_of_ble_eq_true rfl) (hts _ q374) (fun _ h9 => h9) rfl dX8_is_15 ?_
    refine lv_aload_n hx hb dX8_is_18 rfl (lv_at hl 1 rfl) ?_
    refine va_get (D := D) (ci := 8) (v := .int (fr 4)) (C := RX8) (T := TX8) (N := 8) hx hb hts in_X8 hown hK hP 0 rfl rfl 4 (Nat.le_of_ble_eq_true rfl) (hts _ q375) (fun _ h9 => h9) rfl dX8_is_19 ?_
    refine lv_isub hx hb dX8_is_22 ?_
    refine lv_aload_n hx hb dX8_is_23 rfl (lv_at hl 0 rfl) ?_
    have hrc := vk_recv hU.2.2.2.2.1 (i := zNi p1) (zNi_lt _) hS
    refine zc_i (wc := []) (wr := [zRd ad ra rm fr, zO ad f g, zA (kk 0) (ad 20) 160 tape]) (w1 := fun _ : Unit => []) (rest := [.int ((fr 3) - (fr 4))]) [] [0, 1, 2] rfl rfl (by decide) (by decide) (by decide) hA hP hD hS (fun hP hD => va_runV (As := []) (rest := [.int ((fr 3) - (fr 4))]) ⟨hx, hb, hml, hown, hts⟩ (metJ2_length l htr D kk sg _ (zNi p1) (zNi_lt _)  _ h) (cwV 0 hts (lw_V q417 q418 q419 q76 q420) rfl rfl rfl pdJ2_length ⟨(Nat.le_of_ble_eq_true rfl), (Nat.le_of_ble_eq_true rfl)⟩) (zpf_V hK hN hh.2.2.2.1 hU hA hS hh.2.2.2.2.2 hrc hP hD) rfl rfl hl.1 rfl (lv_room (Nat.le_of_ble_eq_true rfl)) dX8_is_24 ⟨(Nat.le_of_ble_eq_true rfl), (Nat.le_of_ble_eq_true rfl)⟩) (fun r_7 u H locs h hP hD hS => ?_)
    try dsimp only at h
    have hP : va_P D vwCl [zRd ad ra rm fr, zO ad f g, zA (kk 0) (ad 20) 160 tape] H := hP
    have hD : va_D A [zRd ad ra rm fr, zO ad f g, zA (kk 0) (ad 20) 160 tape] := hD
    refine lv_icmp_ne (tgt := 34) hx hb dX8_is_27 (by decide) (fun c_8 => ?_) (fun c_8 => ?_)
    · have h := h.2 c_8
      exact cut_34 h _ _ hP hD hS _ (lv_sub hl [1, 0] rfl)
    · have h := h.1 c_8
      refine lv_iconst (v := (1 : Int32)) hx hb dX8_is_30 (by decide) ?_
      refine lv_goto (tgt := 35) hx hb dX8_is_31 (by decide) ?_
      exact cut_35 (1 : Int32) h _ _ hP hD hS _ (lv_sub hl [1, 0] rfl)
def wpX8_next_202 (tape : Nat → Int32) (Q : (Nat → Int32) → Prop) (QT : Int32 → Int32 → (Nat → Int32) → Prop) (k0 : (Nat → Int32) → Prop) (k112 : (Nat → Int32) → Prop) (fr : Nat → Int32) (s1 : Int32) : Prop :=
  (wpX8_need fr s1 (1 : Int32) (Q fr) (fun a_15 b_16 => QT a_15 b_16 fr))
def wpX8_next_167 (tape : Nat → Int32) (Q : (Nat → Int32) → Prop) (QT : Int32 → Int32 → (Nat → Int32) → Prop) (k0 : (Nat → Int32) → Prop) (k112 : (Nat → Int32) → Prop) (fr : Nat → Int32) (s1 : Int32) : Prop :=
  k112 (upd (upd fr 6 s1) 3 ((fr 3) + (1 : Int32)))
def wbX8_next_112 (tape : Nat → Int32) (Q : (Nat → Int32) → Prop) (QT : Int32 → Int32 → (Nat → Int32) → Prop) (k0 : (Nat → Int32) → Prop) (k112 : (Nat → Int32) → Prop) (fr : Nat → Int32) : Prop :=
  (wpX8_isIn fr tape (48 : Int32) (57 : Int32) (fun r_12 => ((r_12 = 0 → (((3 : Int32) ≤ ((fr 3) - (fr 4)) → wpX8_next_202 tape Q QT k0 k112 fr (0 : Int32)) ∧ (¬ (3 : Int32) ≤ ((fr 3) - (fr 4)) → wpX8_next_202 tape Q QT k0 k112 fr (1 : Int32)))) ∧ (¬ r_12 = 0 → (((2 : Int32) ≤ ((fr 3) - (fr 4)) → wpX8_next_167 tape Q QT k0 k112 fr (fr 6)) ∧ (¬ (2 : Int32) ≤ ((fr 3) - (fr 4)) → (vp_in (fr 3) 160 ∧ wpX8_next_167 tape Q QT k0 k112 fr ((((10 : Int32) * (fr 6)) + (tape (fr 3).toNatClampNeg)) - (48 : Int32)))))))))
def wpX8_next_112 (tape : Nat → Int32) (Q : (Nat → Int32) → Prop) (QT : Int32 → Int32 → (Nat → Int32) → Prop) (k0 : (Nat → Int32) → Prop) (n : Nat) : (Nat → Int32) → Prop :=
  Nat.rec (motive := fun _ => (Nat → Int32) → Prop) (fun _ => False) (fun _ k => wbX8_next_112 tape Q QT k0 k) n
def wbX8_next_67 (tape : Nat → Int32) (Q : (Nat → Int32) → Prop) (QT : Int32 → Int32 → (Nat → Int32) → Prop) (k0 : (Nat → Int32) → Prop) (k67 : (Nat → Int32) → Prop) (fr : Nat → Int32) : Prop :=
  (wpX8_isIn fr tape (97 : Int32) (122 : Int32) (fun r_19 => ((r_19 = 0 → Q fr) ∧ (¬ r_19 = 0 → k67 (upd fr 3 ((fr 3) + (1 : Int32)))))))
def wpX8_next_67 (tape : Nat → Int32) (Q : (Nat → Int32) → Prop) (QT : Int32 → Int32 → (Nat → Int32) → Prop) (k0 : (Nat → Int32) → Prop) (n : Nat) : (Nat → Int32) → Prop :=
  Nat.rec (motive := fun _ => (Nat → Int32) → Prop) (fun _ => False) (fun _ k => wbX8_next_67 tape Q QT k0 k) n
def wbX8_next_0 (tape : Nat → Int32) (Q : (Nat → Int32) → Prop) (QT : Int32 → Int32 → (Nat → Int32) → Prop) (k0 : (Nat → Int32) → Prop) (fr : Nat → Int32) : Prop :=
  (wpX8_isIn fr tape (32 : Int32) (32 : Int32) (fun r_1 => ((r_1 = 0 → (((fr 3) = (fr 0) → Q (upd (upd fr 4 (fr 3)) 5 (0 : Int32))) ∧ (¬ (fr 3) = (fr 0) → (wpX8_isIn (upd fr 4 (fr 3)) tape (97 : Int32) (122 : Int32) (fun r_4 => ((r_4 = 0 → (wpX8_isIn (upd fr 4 (fr 3)) tape (48 : Int32) (57 : Int32) (fun r_6 => ((r_6 = 0 → (wpX8_isIn (upd (upd fr 4 (fr 3)) 5 (3 : Int32)) tape (59 : Int32) (59 : Int32) (fun r_8 => (wpX8_need (upd (upd fr 4 (fr 3)) 5 (3 : Int32)) r_8 (1 : Int32) (Q (upd (upd (upd fr 4 (fr 3)) 5 (3 : Int32)) 3 ((fr 3) + (1 : Int32)))) (fun a_10 b_11 => QT a_10 b_11 (upd (upd fr 4 (fr 3)) 5 (3 : Int32))))))) ∧ (¬ r_6 = 0 → (∃ n : Nat, wpX8_next_112 tape Q QT k0 n (upd (upd (upd fr 4 (fr 3)) 5 (2 : Int32)) 6 (0 : Int32)))))))) ∧ (¬ r_4 = 0 → (∃ n : Nat, wpX8_next_67 tape Q QT k0 n (upd (upd fr 4 (fr 3)) 5 (1 : Int32)))))))))) ∧ (¬ r_1 = 0 → k0 (upd fr 3 ((fr 3) + (1 : Int32)))))))
def wpX8_next_0 (tape : Nat → Int32) (Q : (Nat → Int32) → Prop) (QT : Int32 → Int32 → (Nat → Int32) → Prop) (n : Nat) : (Nat → Int32) → Prop :=
  Nat.rec (motive := fun _ => (Nat → Int32) → Prop) (fun _ => False) (fun _ k => wbX8_next_0 tape Q QT  k) n
def wpX8_next (fr : Nat → Int32) (tape : Nat → Int32) (Q : (Nat → Int32) → Prop) (QT : Int32 → Int32 → (Nat → Int32) → Prop) : Prop :=
  (∃ n : Nat, wpX8_next_0 tape Q QT  n fr)
set_option maxHeartbeats 4000000 in
theorem metX8_next (l : Launch) (htr : l.stackTraces = false) (D : va_G) (kk : Nat → ClassId) (sg : Nat → Nat) (ad : Nat → Nat) (ra : Nat) (rm : Nat) (sz : Nat) (fr : Nat → Int32) (f : Nat → Int32) (g : Nat → Int64) (tape : Nat → Int32) (Q : (Nat → Int32) → Prop) (QT : Int32 → Int32 → (Nat → Int32) → Prop) (h : wpX8_next fr tape Q QT) : MetX l yX8_next (Cond.code yX8_next cX8_next 1 none :: lw_all) { frames := 5, cells := 1, slots := 8, locals := 134 } (va_Pc ([.ref ra] : List Value) (zPF D kk sg [zRd ad ra rm fr, zO ad f g, zA (kk 0) (ad 20) 160 tape] sz)) (zQX (fun _ : Unit => none) (fun (_ : Unit) (u : (Nat → Int32)) => Q u) (zB D (va_A [zRd ad ra rm fr, zO ad f g, zA (kk 0) (ad 20) 160 tape] sz) (fun u : (Nat → Int32) => [zRd ad ra rm u, zO ad f g, zA (kk 0) (ad 20) 160 tape])) (fun (u : (Int32 × Int32) × ((Nat → Int32))) => QT u.1.1 u.1.2 u.2) (zBT D (va_A [zRd ad ra rm fr, zO ad f g, zA (kk 0) (ad 20) 160 tape] sz) (fun (x : Nat) (u : (Int32 × Int32) × ((Nat → Int32))) => [zRd ad ra rm u.2, zO ad f g, zA (kk 0) (ad 20) 160 tape, zF x u.1.1 u.1.2]) (fun _ => "LoseLeague$Fault")) (va_A [zRd ad ra rm fr, zO ad f g, zA (kk 0) (ad 20) 160 tape] sz)) 1 8 (va_A [zRd ad ra rm fr, zO ad f g, zA (kk 0) (ad 20) 160 tape] sz) := by
  refine zMetFX (Qc := fun A => zQX (fun _ : Unit => none) (fun (_ : Unit) (u : (Nat → Int32)) => Q u) (zB D A (fun u : (Nat → Int32) => [zRd ad ra rm u, zO ad f g, zA (kk 0) (ad 20) 160 tape])) (fun (u : (Int32 × Int32) × ((Nat → Int32))) => QT u.1.1 u.1.2 u.2) (zBT D A (fun (x : Nat) (u : (Int32 × Int32) × ((Nat → Int32))) => [zRd ad ra rm u.2, zO ad f g, zA (kk 0) (ad 20) 160 tape, zF x u.1.1 u.1.2]) (fun _ => "LoseLeague$Fault")) A) htr (by decide) (Or.inl ⟨rfl, rfl⟩) (Nat.le_of_ble_eq_true rfl) ?_
  intro p e s m below meth c A X hh hU htab had hP hD hS ls hl
  obtain ⟨hx, hb, hr, hml, hown, hts, hlk, hnm, hK, hN, hA⟩ := X
  have hown : s.vm.findClass "LoseLeague$Reader" = some m.cls := hown
  have hl : lv_has ls 1 [(0, .ref ra)] := hl
  have hout : ∀ (pcc : Nat), ∀ y ∈ c.exceptionTable.toList, covers y pcc = false := by
    intro pcc y hy
    rw [List.map_eq_nil_iff.mp htab] at hy
    cases hy
  unfold wpX8_next at h
  have cut_0 : ∀ (nl0 : Nat) (fr : Nat → Int32), wpX8_next_0 tape Q QT  nl0 fr → ∀ (H : Heap) (locs : List Loc), va_P D vwCl [zRd ad ra rm fr, zO ad f g, zA (kk 0) (ad 20) 160 tape] H → va_D A [zRd ad ra rm fr, zO ad f g, zA (kk 0) (ad 20) 160 tape] → va_S A s.heap H locs → ∀ ls : Array Slot, lv_has ls 1 [(0, .ref ra)] → W p l e { frames := 5, cells := 1, slots := 8, locals := 134 } s m ([.ref ra] : List Value).toArray below meth c H locs 0 0 (MT below (zQX (fun _ : Unit => none) (fun (_ : Unit) (u : (Nat → Int32)) => Q u) (zB D A (fun u : (Nat → Int32) => [zRd ad ra rm u, zO ad f g, zA (kk 0) (ad 20) 160 tape])) (fun (u : (Int32 × Int32) × ((Nat → Int32))) => QT u.1.1 u.1.2 u.2) (zBT D A (fun (x : Nat) (u : (Int32 × Int32) × ((Nat → Int32))) => [zRd ad ra rm u.2, zO ad f g, zA (kk 0) (ad 20) 160 tape, zF x u.1.1 u.1.2]) (fun _ => "LoseLeague$Fault")) A) ([.ref ra] : List Value).toArray s 1 8 A) (F0 m 0 ls []) := by
    intro nl0
    induction nl0 with
    | zero => intro fr h; exact absurd h id
    | succ nl0 ih_0 =>
      intro fr h H locs hP hD hS ls hl
      have h : wbX8_next_0 tape Q QT  (wpX8_next_0 tape Q QT  nl0) fr := h
      unfold wbX8_next_0 at h
      refine lv_aload_n hx hb dX8_next_0 rfl (lv_at hl 0 rfl) ?_
      refine lv_bipush (v := (32 : Int32)) hx hb dX8_next_1 (by decide) ?_
      refine lv_bipush (v := (32 : Int32)) hx hb dX8_next_3 (by decide) ?_
      have hrc := va_recv hK hP (ci := 8) (q0 := 0) rfl rfl
      refine zc_i (wc := [zRd ad ra rm fr, zO ad f g, zA (kk 0) (ad 20) 160 tape]) (wr := []) (w1 := (fun u : Unit => [zRd ad ra rm fr, zO ad f g, zA (kk 0) (ad 20) 160 tape])) (rest := []) [0, 1, 2] [] rfl rfl (by decide) (by decide) (by decide) hA hP hD hS (fun hP hD => va_runV (As := [.int (32 : Int32), .int (32 : Int32)]) (rest := []) ⟨hx, hb, hml, hown, hts⟩ (metX8_isIn l D kk ad ra rm _ fr f g tape (32 : Int32) (32 : Int32) _ h) (cwV 2 hts (lw_V q278 q280 qs1 q72 q281) rfl rfl rfl pdX8_isIn ⟨(Nat.le_of_ble_eq_true rfl), (Nat.le_of_ble_eq_true rfl)⟩) (zp_V hK hN hrc hP hD) rfl rfl hl.1 rfl (lv_room (Nat.le_of_ble_eq_true rfl)) dX8_next_5 ⟨(Nat.le_of_ble_eq_true rfl), (Nat.le_of_ble_eq_true rfl)⟩) (fun r_1 u H locs h hP hD hS => ?_)
      try dsimp only at h
      have hP : va_P D vwCl [zRd ad ra rm fr, zO ad f g, zA (kk 0) (ad 20) 160 tape] H := hP
      have hD : va_D A [zRd ad ra rm fr, zO ad f g, zA (kk 0) (ad 20) 160 tape] := hD
      refine lv_if_eq (tgt := 24) hx hb dX8_next_8 (by decide) (fun c_2 => ?_) (fun c_2 => ?_)
      · have h := h.1 c_2
        refine lv_aload_n hx hb dX8_next_24 rfl (lv_at hl 0 rfl) ?_
        refine lv_aload_n hx hb dX8_next_25 rfl (lv_at hl 0 rfl) ?_
        refine va_get (D := D) (ci := 8) (v := .int (fr 3)) (C := RX8) (T := TX8) (N := 8) hx hb hts in_X8 hown hK hP 0 rfl rfl 3 (Nat.le_of_ble_eq_true rfl) (hts _ q374) (fun _ h9 => h9) rfl dX8_next_26 ?_
        refine va_put (D := D) (ci := 8) (v := .int (fr 3)) (C := RX8) (T := TX8) (N := 8) hx hb hts in_X8 tyX8 tyX8_ok nmX8 hown hK hP hD hS 0 rfl rfl 4 (Nat.le_of_ble_eq_true rfl) (hts _ q375) (fun _ h9 => h9) rfl (tyX8_ok 4 (Nat.le_of_ble_eq_true rfl)) rfl rfl (Nat.le_of_ble_eq_true rfl) dX8_next_29 (fun H locs hP hD hS => ?_)
        have hP : va_P D vwCl [zRd ad ra rm (upd fr 4 (fr 3)), zO ad f g, zA (kk 0) (ad 20) 160 tape] H := hP
        have hD : va_D A [zRd ad ra rm (upd fr 4 (fr 3)), zO ad f g, zA (kk 0) (ad 20) 160 tape] := hD
        refine lv_aload_n hx hb dX8_next_32 rfl (lv_at hl 0 rfl) ?_
        refine va_get (D := D) (ci := 8) (v := .int (fr 3)) (C := RX8) (T := TX8) (N := 8) hx hb hts in_X8 hown hK hP 0 rfl rfl 3 (Nat.le_of_ble_eq_true rfl) (hts _ q374) (fun _ h9 => h9) rfl dX8_next_33 ?_
        refine lv_aload_n hx hb dX8_next_36 rfl (lv_at hl 0 rfl) ?_
        refine va_get (D := D) (ci := 8) (v := .int (fr 0)) (C := RX8) (T := TX8) (N := 8) hx hb hts in_X8 hown hK hP 0 rfl rfl 0 (Nat.le_of_ble_eq_true rfl) (hts _ q370) (fun _ h9 => h9) rfl dX8_next_37 ?_
        refine lv_icmp_ne (tgt := 51) hx hb dX8_next_40 (by decide) (fun c_3 => ?_) (fun c_3 => ?_)
        · have h := h.2 c_3
          refine lv_aload_n hx hb dX8_next_51 rfl (lv_at hl 0 rfl) ?_
          refine lv_bipush (v := (97 : Int32)) hx hb dX8_next_52 (by decide) ?_
          refine lv_bipush (v := (122 : Int32)) hx hb dX8_next_54 (by decide) ?_
          have hrc := va_recv hK hP (ci := 8) (q0 := 0) rfl rfl
          refine zc_i (wc := [zRd ad ra rm (upd fr 4 (fr 3)), zO ad f g, zA (kk 0) (ad 20) 160 tape]) (wr := []) (w1 := (fun u : Unit => [zRd ad ra rm (upd fr 4 (fr 3)), zO ad f g, zA (kk 0) (ad 20) 160 tape])) (rest := []) [0, 1, 2] [] rfl rfl (by decide) (by decide) (by decide) hA hP hD hS (fun hP hD => va_runV (As := [.int (97 : Int32), .int (122 : Int32)]) (rest := []) ⟨hx, hb, hml, hown, hts⟩ (metX8_isIn l D kk ad ra rm _ (upd fr 4 (fr 3)) f g tape (97 : Int32) (122 : Int32) _ h) (cwV 2 hts (lw_V q278 q280 qs1 q72 q281) rfl rfl rfl pdX8_isIn ⟨(Nat.le_of_ble_eq_true rfl), (Nat.le_of_ble_eq_true rfl)⟩) (zp_V hK hN hrc hP hD) rfl rfl hl.1 rfl (lv_room (Nat.le_of_ble_eq_true rfl)) dX8_next_56 ⟨(Nat.le_of_ble_eq_true rfl), (Nat.le_of_ble_eq_true rfl)⟩) (fun r_4 u H locs h hP hD hS => ?_)
          try dsimp only at h
          have hP : va_P D vwCl [zRd ad ra rm (upd fr 4 (fr 3)), zO ad f g, zA (kk 0) (ad 20) 160 tape] H := hP
          have hD : va_D A [zRd ad ra rm (upd fr 4 (fr 3)), zO ad f g, zA (kk 0) (ad 20) 160 tape] := hD
          refine lv_if_eq (tgt := 91) hx hb dX8_next_59 (by decide) (fun c_5 => ?_) (fun c_5 => ?_)
          · have h := h.1 c_5
            refine lv_aload_n hx hb dX8_next_91 rfl (lv_at hl 0 rfl) ?_
            refine lv_bipush (v := (48 : Int32)) hx hb dX8_next_92 (by decide) ?_
            refine lv_bipush (v := (57 : Int32)) hx hb dX8_next_94 (by decide) ?_
            have hrc := va_recv hK hP (ci := 8) (q0 := 0) rfl rfl
            refine zc_i (wc := [zRd ad ra rm (upd fr 4 (fr 3)), zO ad f g, zA (kk 0) (ad 20) 160 tape]) (wr := []) (w1 := (fun u : Unit => [zRd ad ra rm (upd fr 4 (fr 3)), zO ad f g, zA (kk 0) (ad 20) 160 tape])) (rest := []) [0, 1, 2] [] rfl rfl (by decide) (by decide) (by decide) hA hP hD hS (fun hP hD => va_runV (As := [.int (48 : Int32), .int (57 : Int32)]) (rest := []) ⟨hx, hb, hml, hown, hts⟩ (metX8_isIn l D kk ad ra rm _ (upd fr 4 (fr 3)) f g tape (48 : Int32) (57 : Int32) _ h) (cwV 2 hts (lw_V q278 q280 qs1 q72 q281) rfl rfl rfl pdX8_isIn ⟨(Nat.le_of_ble_eq_true rfl), (Nat.le_of_ble_eq_true rfl)⟩) (zp_V hK hN hrc hP hD) rfl rfl hl.1 rfl (lv_room (Nat.le_of_ble_eq_true rfl)) dX8_next_96 ⟨(Nat.le_of_ble_eq_true rfl), (Nat.le_of_ble_eq_true rfl)⟩) (fun r_6 u H locs h hP hD hS => ?_)
            try dsimp only at h
            have hP : va_P D vwCl [zRd ad ra rm (upd fr 4 (fr 3)), zO ad f g, zA (kk 0) (ad 20) 160 tape] H := hP
            have hD : va_D A [zRd ad ra rm (upd fr 4 (fr 3)), zO ad f g, zA (kk 0) (ad 20) 160 tape] := hD
            refine lv_if_eq (tgt := 209) hx hb dX8_next_99 (by decide) (fun c_7 => ?_) (fun c_7 => ?_)
            · have h := h.1 c_7
              refine lv_aload_n hx hb dX8_next_209 rfl (lv_at hl 0 rfl) ?_
              refine lv_iconst (v := (3 : Int32)) hx hb dX8_next_210 (by decide) ?_
              refine va_put (D := D) (ci := 8) (v := .int (3 : Int32)) (C := RX8) (T := TX8) (N := 8) hx hb hts in_X8 tyX8 tyX8_ok nmX8 hown hK hP hD hS 0 rfl rfl 5 (Nat.le_of_ble_eq_true rfl) (hts _ q376) (fun _ h9 => h9) rfl (tyX8_ok 5 (Nat.le_of_ble_eq_true rfl)) rfl rfl (Nat.le_of_ble_eq_true rfl) dX8_next_211 (fun H locs hP hD hS => ?_)
              have hP : va_P D vwCl [zRd ad ra rm (upd (upd fr 4 (fr 3)) 5 (3 : Int32)), zO ad f g, zA (kk 0) (ad 20) 160 tape] H := hP
              have hD : va_D A [zRd ad ra rm (upd (upd fr 4 (fr 3)) 5 (3 : Int32)), zO ad f g, zA (kk 0) (ad 20) 160 tape] := hD
              refine lv_aload_n hx hb dX8_next_214 rfl (lv_at hl 0 rfl) ?_
              refine lv_aload_n hx hb dX8_next_215 rfl (lv_at hl 0 rfl) ?_
              refine lv_bipush (v := (59 : Int32)) hx hb dX8_next_216 (by decide) ?_
              refine lv_bipush (v := (59 : Int32)) hx hb dX8_next_218 (by decide) ?_
              have hrc := va_recv hK hP (ci := 8) (q0 := 0) rfl rfl
              refine zc_i (wc := [zRd ad ra rm (upd (upd fr 4 (fr 3)) 5 (3 : Int32)), zO ad f g, zA (kk 0) (ad 20) 160 tape]) (wr := []) (w1 := (fun u : Unit => [zRd ad ra rm (upd (upd fr 4 (fr 3)) 5 (3 : Int32)), zO ad f g, zA (kk 0) (ad 20) 160 tape])) (rest := [.ref ra]) [0, 1, 2] [] rfl rfl (by decide) (by decide) (by decide) hA hP hD hS (fun hP hD => va_runV (As := [.int (59 : Int32), .int (59 : Int32)]) (rest := [.ref ra]) ⟨hx, hb, hml, hown, hts⟩ (metX8_isIn l D kk ad ra rm _ (upd (upd fr 4 (fr 3)) 5 (3 : Int32)) f g tape (59 : Int32) (59 : Int32) _ h) (cwV 2 hts (lw_V q278 q280 qs1 q72 q281) rfl rfl rfl pdX8_isIn ⟨(Nat.le_of_ble_eq_true rfl), (Nat.le_of_ble_eq_true rfl)⟩) (zp_V hK hN hrc hP hD) rfl rfl hl.1 rfl (lv_room (Nat.le_of_ble_eq_true rfl)) dX8_next_220 ⟨(Nat.le_of_ble_eq_true rfl), (Nat.le_of_ble_eq_true rfl)⟩) (fun r_8 u H locs h hP hD hS => ?_)
              try dsimp only at h
              have hP : va_P D vwCl [zRd ad ra rm (upd (upd fr 4 (fr 3)) 5 (3 : Int32)), zO ad f g, zA (kk 0) (ad 20) 160 tape] H := hP
              have hD : va_D A [zRd ad ra rm (upd (upd fr 4 (fr 3)) 5 (3 : Int32)), zO ad f g, zA (kk 0) (ad 20) 160 tape] := hD
              refine lv_iconst (v := (1 : Int32)) hx hb dX8_next_223 (by decide) ?_
              have hrc := va_recv hK hP (ci := 8) (q0 := 0) rfl rfl
              refine zx_c (wc := [zRd ad ra rm (upd (upd fr 4 (fr 3)) 5 (3 : Int32))]) (wr := [zO ad f g, zA (kk 0) (ad 20) 160 tape]) (w1 := (fun u : Unit => [zRd ad ra rm (upd (upd fr 4 (fr 3)) 5 (3 : Int32))])) (wT := (fun (x : Nat) (u : (Int32 × Int32) × (Unit)) => [zRd ad ra rm (upd (upd fr 4 (fr 3)) 5 (3 : Int32)), zF x u.1.1 u.1.2])) (CX := fun _ => "LoseLeague$Fault") (rest := []) [0] [1, 2] rfl rfl (by decide) (by decide) (by decide) hA hP hD hS (fun hP hD => zx_runV (As := [.int r_8, .int (1 : Int32)]) (rest := []) 2 ⟨hx, hb, hml, hown, hts⟩ (metX8_need l htr D kk sg ad ra rm _ (upd (upd fr 4 (fr 3)) 5 (3 : Int32)) r_8 (1 : Int32) _ _ h) (Or.inl ⟨rfl, rfl⟩) q285 rfl rfl ⟨(Nat.le_of_ble_eq_true rfl), (Nat.le_of_ble_eq_true rfl)⟩ q282 q284 qs2 q72 pdX8_need (zpf_V hK hN hh.2.2.2.1 hU hA hS hh.2.2.2.2.2 hrc hP hD) rfl rfl hl.1 rfl (lv_room (Nat.le_of_ble_eq_true rfl)) dX8_next_224 ⟨(Nat.le_of_ble_eq_true rfl), (Nat.le_of_ble_eq_true rfl)⟩) (fun _ u H locs h hP hD hS => ?_) (fun x u H locs h hP hD hS hc => ?_)
              rotate_left
              · obtain ⟨⟨a_10, b_11⟩, _⟩ := u
                try dsimp only at h
                have hP : va_P D vwCl [zO ad f g, zA (kk 0) (ad 20) 160 tape, zRd ad ra rm (upd (upd fr 4 (fr 3)) 5 (3 : Int32)), zF x a_10 b_11] H := hP
                have hD : va_D A [zO ad f g, zA (kk 0) (ad 20) 160 tape, zRd ad ra rm (upd (upd fr 4 (fr 3)) 5 (3 : Int32)), zF x a_10 b_11] := hD
                exact zx_thr hlk (hout _) hP hD hS ((a_10, b_11), ((upd (upd fr 4 (fr 3)) 5 (3 : Int32)))) [2, 0, 1, 3] rfl (by decide) hc h
              try dsimp only at h
              have hP : va_P D vwCl [zO ad f g, zA (kk 0) (ad 20) 160 tape, zRd ad ra rm (upd (upd fr 4 (fr 3)) 5 (3 : Int32))] H := hP
              have hD : va_D A [zO ad f g, zA (kk 0) (ad 20) 160 tape, zRd ad ra rm (upd (upd fr 4 (fr 3)) 5 (3 : Int32))] := hD
              refine W.eq (g2 := F0 m 227 ls []) rfl ?_
              refine lv_aload_n hx hb dX8_next_227 rfl (lv_at hl 0 rfl) ?_
              refine lv_dup hx hb dX8_next_228 rfl ?_
              refine va_get (D := D) (ci := 8) (v := .int (fr 3)) (C := RX8) (T := TX8) (N := 8) hx hb hts in_X8 hown hK hP 2 rfl rfl 3 (Nat.le_of_ble_eq_true rfl) (hts _ q374) (fun _ h9 => h9) rfl dX8_next_229 ?_
              refine lv_iconst (v := (1 : Int32)) hx hb dX8_next_232 (by decide) ?_
              refine lv_iadd hx hb dX8_next_233 ?_
              refine va_put (D := D) (ci := 8) (v := .int ((fr 3) + (1 : Int32))) (C := RX8) (T := TX8) (N := 8) hx hb hts in_X8 tyX8 tyX8_ok nmX8 hown hK hP hD hS 2 rfl rfl 3 (Nat.le_of_ble_eq_true rfl) (hts _ q374) (fun _ h9 => h9) rfl (tyX8_ok 3 (Nat.le_of_ble_eq_true rfl)) rfl rfl (Nat.le_of_ble_eq_true rfl) dX8_next_234 (fun H locs hP hD hS => ?_)
              have hP : va_P D vwCl [zO ad f g, zA (kk 0) (ad 20) 160 tape, zRd ad ra rm (upd (upd (upd fr 4 (fr 3)) 5 (3 : Int32)) 3 ((fr 3) + (1 : Int32)))] H := hP
              have hD : va_D A [zO ad f g, zA (kk 0) (ad 20) 160 tape, zRd ad ra rm (upd (upd (upd fr 4 (fr 3)) 5 (3 : Int32)) 3 ((fr 3) + (1 : Int32)))] := hD
              exact zx_v hx hb hr hlk hP hD hS ((upd (upd (upd fr 4 (fr 3)) 5 (3 : Int32)) 3 ((fr 3) + (1 : Int32)))) [2, 0, 1] rfl (by decide) dX8_next_237 h
            · have h := h.2 c_7
              refine lv_aload_n hx hb dX8_next_102 rfl (lv_at hl 0 rfl) ?_
              refine lv_iconst (v := (2 : Int32)) hx hb dX8_next_103 (by decide) ?_
              refine va_put (D := D) (ci := 8) (v := .int (2 : Int32)) (C := RX8) (T := TX8) (N := 8) hx hb hts in_X8 tyX8 tyX8_ok nmX8 hown hK hP hD hS 0 rfl rfl 5 (Nat.le_of_ble_eq_true rfl) (hts _ q376) (fun _ h9 => h9) rfl (tyX8_ok 5 (Nat.le_of_ble_eq_true rfl)) rfl rfl (Nat.le_of_ble_eq_true rfl) dX8_next_104 (fun H locs hP hD hS => ?_)
              have hP : va_P D vwCl [zRd ad ra rm (upd (upd fr 4 (fr 3)) 5 (2 : Int32)), zO ad f g, zA (kk 0) (ad 20) 160 tape] H := hP
              have hD : va_D A [zRd ad ra rm (upd (upd fr 4 (fr 3)) 5 (2 : Int32)), zO ad f g, zA (kk 0) (ad 20) 160 tape] := hD
              refine lv_aload_n hx hb dX8_next_107 rfl (lv_at hl 0 rfl) ?_
              refine lv_iconst (v := (0 : Int32)) hx hb dX8_next_108 (by decide) ?_
              have cut_112 : ∀ (nl112 : Nat) (fr : Nat → Int32), wpX8_next_112 tape Q QT (wpX8_next_0 tape Q QT  nl0) nl112 fr → ∀ (H : Heap) (locs : List Loc), va_P D vwCl [zRd ad ra rm fr, zO ad f g, zA (kk 0) (ad 20) 160 tape] H → va_D A [zRd ad ra rm fr, zO ad f g, zA (kk 0) (ad 20) 160 tape] → va_S A s.heap H locs → ∀ ls : Array Slot, lv_has ls 1 [(0, .ref ra)] → W p l e { frames := 5, cells := 1, slots := 8, locals := 134 } s m ([.ref ra] : List Value).toArray below meth c H locs 0 0 (MT below (zQX (fun _ : Unit => none) (fun (_ : Unit) (u : (Nat → Int32)) => Q u) (zB D A (fun u : (Nat → Int32) => [zRd ad ra rm u, zO ad f g, zA (kk 0) (ad 20) 160 tape])) (fun (u : (Int32 × Int32) × ((Nat → Int32))) => QT u.1.1 u.1.2 u.2) (zBT D A (fun (x : Nat) (u : (Int32 × Int32) × ((Nat → Int32))) => [zRd ad ra rm u.2, zO ad f g, zA (kk 0) (ad 20) 160 tape, zF x u.1.1 u.1.2]) (fun _ => "LoseLeague$Fault")) A) ([.ref ra] : List Value).toArray s 1 8 A) (F0 m 112 ls []) := by
                intro nl112
                induction nl112 with
                | zero => intro fr h; exact absurd h id
                | succ nl112 ih_112 =>
                  intro fr h H locs hP hD hS ls hl
                  have h : wbX8_next_112 tape Q QT (wpX8_next_0 tape Q QT  nl0) (wpX8_next_112 tape Q QT (wpX8_next_0 tape Q QT  nl0) nl112) fr := h
                  unfold wbX8_next_112 at h
                  refine lv_aload_n hx hb dX8_next_112 rfl (lv_at hl 0 rfl) ?_
                  refine lv_bipush (v := (48 : Int32)) hx hb dX8_next_113 (by decide) ?_
                  refine lv_bipush (v := (57 : Int32)) hx hb dX8_next_115 (by decide) ?_
                  have hrc := va_recv hK hP (ci := 8) (q0 := 0) rfl rfl
                  refine zc_i (wc := [zRd ad ra rm fr, zO ad f g, zA (kk 0) (ad 20) 160 tape]) (wr := []) (w1 := (fun u : Unit => [zRd ad ra rm fr, zO ad f g, zA (kk 0) (ad 20) 160 tape])) (rest := []) [0, 1, 2] [] rfl rfl (by decide) (by decide) (by decide) hA hP hD hS (fun hP hD => va_runV (As := [.int (48 : Int32), .int (57 : Int32)]) (rest := []) ⟨hx, hb, hml, hown, hts⟩ (metX8_isIn l D kk ad ra rm _ fr f g tape (48 : Int32) (57 : Int32) _ h) (cwV 2 hts (lw_V q278 q280 qs1 q72 q281) rfl rfl rfl pdX8_isIn ⟨(Nat.le_of_ble_eq_true rfl), (Nat.le_of_ble_eq_true rfl)⟩) (zp_V hK hN hrc hP hD) rfl rfl hl.1 rfl (lv_room (Nat.le_of_ble_eq_true rfl)) dX8_next_117 ⟨(Nat.le_of_ble_eq_true rfl), (Nat.le_of_ble_eq_true rfl)⟩) (fun r_12 u H locs h hP hD hS => ?_)
                  try dsimp only at h
                  have hP : va_P D vwCl [zRd ad ra rm fr, zO ad f g, zA (kk 0) (ad 20) 160 tape] H := hP
                  have hD : va_D A [zRd ad ra rm fr, zO ad f g, zA (kk 0) (ad 20) 160 tape] := hD
                  refine lv_if_eq (tgt := 183) hx hb dX8_next_120 (by decide) (fun c_13 => ?_) (fun c_13 => ?_)
                  · have h := h.1 c_13
                    refine lv_aload_n hx hb dX8_next_183 rfl (lv_at hl 0 rfl) ?_
                    refine lv_aload_n hx hb dX8_next_184 rfl (lv_at hl 0 rfl) ?_
                    refine va_get (D := D) (ci := 8) (v := .int (fr 3)) (C := RX8) (T := TX8) (N := 8) hx hb hts in_X8 hown hK hP 0 rfl rfl 3 (Nat.le_of_ble_eq_true rfl) (hts _ q374) (fun _ h9 => h9) rfl dX8_next_185 ?_
                    refine lv_aload_n hx hb dX8_next_188 rfl (lv_at hl 0 rfl) ?_
                    refine va_get (D := D) (ci := 8) (v := .int (fr 4)) (C := RX8) (T := TX8) (N := 8) hx hb hts in_X8 hown hK hP 0 rfl rfl 4 (Nat.le_of_ble_eq_true rfl) (hts _ q375) (fun _ h9 => h9) rfl dX8_next_189 ?_
                    refine lv_isub hx hb dX8_next_192 ?_
                    refine lv_iconst (v := (3 : Int32)) hx hb dX8_next_193 (by decide) ?_
                    have cut_202 : ∀ (fr : Nat → Int32) (s1 : Int32), wpX8_next_202 tape Q QT (wpX8_next_0 tape Q QT  nl0) (wpX8_next_112 tape Q QT (wpX8_next_0 tape Q QT  nl0) nl112) fr s1 → ∀ (H : Heap) (locs : List Loc), va_P D vwCl [zRd ad ra rm fr, zO ad f g, zA (kk 0) (ad 20) 160 tape] H → va_D A [zRd ad ra rm fr, zO ad f g, zA (kk 0) (ad 20) 160 tape] → va_S A s.heap H locs → ∀ ls : Array Slot, lv_has ls 1 [] → W p l e { frames := 5, cells := 1, slots := 8, locals := 134 } s m ([.ref ra] : List Value).toArray below meth c H locs 0 0 (MT below (zQX (fun _ : Unit => none) (fun (_ : Unit) (u : (Nat → Int32)) => Q u) (zB D A (fun u : (Nat → Int32) => [zRd ad ra rm u, zO ad f g, zA (kk 0) (ad 20) 160 tape])) (fun (u : (Int32 × Int32) × ((Nat → Int32))) => QT u.1.1 u.1.2 u.2) (zBT D A (fun (x : Nat) (u : (Int32 × Int32) × ((Nat → Int32))) => [zRd ad ra rm u.2, zO ad f g, zA (kk 0) (ad 20) 160 tape, zF x u.1.1 u.1.2]) (fun _ => "LoseLeague$Fault")) A) ([.ref ra] : List Value).toArray s 1 8 A) (F0 m 202 ls [.int s1, .ref ra]) := by
                      intro fr s1 h H locs hP hD hS ls hl
                      unfold wpX8_next_202 at h
                      refine lv_iconst (v := (1 : Int32)) hx hb dX8_next_202 (by decide) ?_
                      have hrc := va_recv hK hP (ci := 8) (q0 := 0) rfl rfl
                      refine zx_c (wc := [zRd ad ra rm fr]) (wr := [zO ad f g, zA (kk 0) (ad 20) 160 tape]) (w1 := (fun u : Unit => [zRd ad ra rm fr])) (wT := (fun (x : Nat) (u : (Int32 × Int32) × (Unit)) => [zRd ad ra rm fr, zF x u.1.1 u.1.2])) (CX := fun _ => "LoseLeague$Fault") (rest := []) [0] [1, 2] rfl rfl (by decide) (by decide) (by decide) hA hP hD hS (fun hP hD => zx_runV (As := [.int s1, .int (1 : Int32)]) (rest := []) 2 ⟨hx, hb, hml, hown, hts⟩ (metX8_need l htr D kk sg ad ra rm _ fr s1 (1 : Int32) _ _ h) (Or.inl ⟨rfl, rfl⟩) q285 rfl rfl ⟨(Nat.le_of_ble_eq_true rfl), (Nat.le_of_ble_eq_true rfl)⟩ q282 q284 qs2 q72 pdX8_need (zpf_V hK hN hh.2.2.2.1 hU hA hS hh.2.2.2.2.2 hrc hP hD) rfl rfl hl.1 rfl (lv_room (Nat.le_of_ble_eq_true rfl)) dX8_next_203 ⟨(Nat.le_of_ble_eq_true rfl), (Nat.le_of_ble_eq_true rfl)⟩) (fun _ u H locs h hP hD hS => ?_) (fun x u H locs h hP hD hS hc => ?_)
                      rotate_left
                      · obtain ⟨⟨a_15, b_16⟩, _⟩ := u
                        try dsimp only at h
                        have hP : va_P D vwCl [zO ad f g, zA (kk 0) (ad 20) 160 tape, zRd ad ra rm fr, zF x a_15 b_16] H := hP
                        have hD : va_D A [zO ad f g, zA (kk 0) (ad 20) 160 tape, zRd ad ra rm fr, zF x a_15 b_16] := hD
                        exact zx_thr hlk (hout _) hP hD hS ((a_15, b_16), (fr)) [2, 0, 1, 3] rfl (by decide) hc h
                      try dsimp only at h
                      have hP : va_P D vwCl [zO ad f g, zA (kk 0) (ad 20) 160 tape, zRd ad ra rm fr] H := hP
                      have hD : va_D A [zO ad f g, zA (kk 0) (ad 20) 160 tape, zRd ad ra rm fr] := hD
                      refine W.eq (g2 := F0 m 206 ls []) rfl ?_
                      refine lv_goto (tgt := 237) hx hb dX8_next_206 (by decide) ?_
                      exact zx_v hx hb hr hlk hP hD hS (fr) [2, 0, 1] rfl (by decide) dX8_next_237 h
                    refine lv_icmp_ge (tgt := 201) hx hb dX8_next_194 (by decide) (fun c_17 => ?_) (fun c_17 => ?_)
                    · have h := h.1 c_17
                      refine lv_iconst (v := (0 : Int32)) hx hb dX8_next_201 (by decide) ?_
                      exact cut_202 fr (0 : Int32) h _ _ hP hD hS _ (lv_sub hl [] rfl)
                    · have h := h.2 c_17
                      refine lv_iconst (v := (1 : Int32)) hx hb dX8_next_197 (by decide) ?_
                      refine lv_goto (tgt := 202) hx hb dX8_next_198 (by decide) ?_
                      exact cut_202 fr (1 : Int32) h _ _ hP hD hS _ (lv_sub hl [] rfl)
                  · have h := h.2 c_13
                    refine lv_aload_n hx hb dX8_next_123 rfl (lv_at hl 0 rfl) ?_
                    refine lv_aload_n hx hb dX8_next_124 rfl (lv_at hl 0 rfl) ?_
                    refine va_get (D := D) (ci := 8) (v := .int (fr 3)) (C := RX8) (T := TX8) (N := 8) hx hb hts in_X8 hown hK hP 0 rfl rfl 3 (Nat.le_of_ble_eq_true rfl) (hts _ q374) (fun _ h9 => h9) rfl dX8_next_125 ?_
                    refine lv_aload_n hx hb dX8_next_128 rfl (lv_at hl 0 rfl) ?_
                    refine va_get (D := D) (ci := 8) (v := .int (fr 4)) (C := RX8) (T := TX8) (N := 8) hx hb hts in_X8 hown hK hP 0 rfl rfl 4 (Nat.le_of_ble_eq_true rfl) (hts _ q375) (fun _ h9 => h9) rfl dX8_next_129 ?_
                    refine lv_isub hx hb dX8_next_132 ?_
                    refine lv_iconst (v := (2 : Int32)) hx hb dX8_next_133 (by decide) ?_
                    have cut_167 : ∀ (fr : Nat → Int32) (s1 : Int32), wpX8_next_167 tape Q QT (wpX8_next_0 tape Q QT  nl0) (wpX8_next_112 tape Q QT (wpX8_next_0 tape Q QT  nl0) nl112) fr s1 → ∀ (H : Heap) (locs : List Loc), va_P D vwCl [zRd ad ra rm fr, zO ad f g, zA (kk 0) (ad 20) 160 tape] H → va_D A [zRd ad ra rm fr, zO ad f g, zA (kk 0) (ad 20) 160 tape] → va_S A s.heap H locs → ∀ ls : Array Slot, lv_has ls 1 [(0, .ref ra)] → W p l e { frames := 5, cells := 1, slots := 8, locals := 134 } s m ([.ref ra] : List Value).toArray below meth c H locs 0 0 (MT below (zQX (fun _ : Unit => none) (fun (_ : Unit) (u : (Nat → Int32)) => Q u) (zB D A (fun u : (Nat → Int32) => [zRd ad ra rm u, zO ad f g, zA (kk 0) (ad 20) 160 tape])) (fun (u : (Int32 × Int32) × ((Nat → Int32))) => QT u.1.1 u.1.2 u.2) (zBT D A (fun (x : Nat) (u : (Int32 × Int32) × ((Nat → Int32))) => [zRd ad ra rm u.2, zO ad f g, zA (kk 0) (ad 20) 160 tape, zF x u.1.1 u.1.2]) (fun _ => "LoseLeague$Fault")) A) ([.ref ra] : List Value).toArray s 1 8 A) (F0 m 167 ls [.int s1, .ref ra]) := by
                      intro fr s1 h H locs hP hD hS ls hl
                      unfold wpX8_next_167 at h
                      refine va_put (D := D) (ci := 8) (v := .int s1) (C := RX8) (T := TX8) (N := 8) hx hb hts in_X8 tyX8 tyX8_ok nmX8 hown hK hP hD hS 0 rfl rfl 6 (Nat.le_of_ble_eq_true rfl) (hts _ q377) (fun _ h9 => h9) rfl (tyX8_ok 6 (Nat.le_of_ble_eq_true rfl)) rfl rfl (Nat.le_of_ble_eq_true rfl) dX8_next_167 (fun H locs hP hD hS => ?_)
                      have hP : va_P D vwCl [zRd ad ra rm (upd fr 6 s1), zO ad f g, zA (kk 0) (ad 20) 160 tape] H := hP
                      have hD : va_D A [zRd ad ra rm (upd fr 6 s1), zO ad f g, zA (kk 0) (ad 20) 160 tape] := hD
                      refine lv_aload_n hx hb dX8_next_170 rfl (lv_at hl 0 rfl) ?_
                      refine lv_dup hx hb dX8_next_171 rfl ?_
                      refine va_get (D := D) (ci := 8) (v := .int (fr 3)) (C := RX8) (T := TX8) (N := 8) hx hb hts in_X8 hown hK hP 0 rfl rfl 3 (Nat.le_of_ble_eq_true rfl) (hts _ q374) (fun _ h9 => h9) rfl dX8_next_172 ?_
                      refine lv_iconst (v := (1 : Int32)) hx hb dX8_next_175 (by decide) ?_
                      refine lv_iadd hx hb dX8_next_176 ?_
                      refine va_put (D := D) (ci := 8) (v := .int ((fr 3) + (1 : Int32))) (C := RX8) (T := TX8) (N := 8) hx hb hts in_X8 tyX8 tyX8_ok nmX8 hown hK hP hD hS 0 rfl rfl 3 (Nat.le_of_ble_eq_true rfl) (hts _ q374) (fun _ h9 => h9) rfl (tyX8_ok 3 (Nat.le_of_ble_eq_true rfl)) rfl rfl (Nat.le_of_ble_eq_true rfl) dX8_next_177 (fun H locs hP hD hS => ?_)
                      have hP : va_P D vwCl [zRd ad ra rm (upd (upd fr 6 s1) 3 ((fr 3) + (1 : Int32))), zO ad f g, zA (kk 0) (ad 20) 160 tape] H := hP
                      have hD : va_D A [zRd ad ra rm (upd (upd fr 6 s1) 3 ((fr 3) + (1 : Int32))), zO ad f g, zA (kk 0) (ad 20) 160 tape] := hD
                      refine lv_goto (tgt := 112) hx hb dX8_next_180 (by decide) ?_
                      exact ih_112 (upd (upd fr 6 s1) 3 ((fr 3) + (1 : Int32))) h _ _ hP hD hS _ (lv_sub hl [0] rfl)
                    refine lv_icmp_ge (tgt := 163) hx hb dX8_next_134 (by decide) (fun c_18 => ?_) (fun c_18 => ?_)
                    · have h := h.1 c_18
                      refine lv_aload_n hx hb dX8_next_163 rfl (lv_at hl 0 rfl) ?_
                      refine va_get (D := D) (ci := 8) (v := .int (fr 6)) (C := RX8) (T := TX8) (N := 8) hx hb hts in_X8 hown hK hP 0 rfl rfl 6 (Nat.le_of_ble_eq_true rfl) (hts _ q377) (fun _ h9 => h9) rfl dX8_next_164 ?_
                      exact cut_167 fr (fr 6) h _ _ hP hD hS _ (lv_sub hl [0] rfl)
                    · have h := h.2 c_18
                      refine lv_bipush (v := (10 : Int32)) hx hb dX8_next_137 (by decide) ?_
                      refine lv_aload_n hx hb dX8_next_139 rfl (lv_at hl 0 rfl) ?_
                      refine va_get (D := D) (ci := 8) (v := .int (fr 6)) (C := RX8) (T := TX8) (N := 8) hx hb hts in_X8 hown hK hP 0 rfl rfl 6 (Nat.le_of_ble_eq_true rfl) (hts _ q377) (fun _ h9 => h9) rfl dX8_next_140 ?_
                      refine lv_imul hx hb dX8_next_143 ?_
                      refine lv_aload_n hx hb dX8_next_144 rfl (lv_at hl 0 rfl) ?_
                      refine va_get (D := D) (ci := 8) (v := .ref (ad 0)) (C := RX8) (T := TX8) (N := 8) hx hb hts in_X8 hown hK hP 0 rfl rfl 7 (Nat.le_of_ble_eq_true rfl) (hts _ q378) (fun _ h9 => h9) rfl dX8_next_145 ?_
                      refine va_getN (D := D) (ci := 0) (v := .ref (ad 20)) (C := RX0) (T := TX0) (N := 25) hx hb hts in_X0 hown hK hP 1 rfl rfl 11 (Nat.le_of_ble_eq_true rfl) (zN_f hN 8 rfl rfl) (fun _ h9 => h9) rfl dX8_next_148 ?_
                      refine lv_aload_n hx hb dX8_next_151 rfl (lv_at hl 0 rfl) ?_
                      refine va_get (D := D) (ci := 8) (v := .int (fr 3)) (C := RX8) (T := TX8) (N := 8) hx hb hts in_X8 hown hK hP 0 rfl rfl 3 (Nat.le_of_ble_eq_true rfl) (hts _ q374) (fun _ h9 => h9) rfl dX8_next_152 ?_
                      obtain ⟨hin, h⟩ := h
                      refine va_bald hx hb hK hP 2 0 rfl rfl hin dX8_next_155 ?_
                      refine lv_iadd hx hb dX8_next_156 ?_
                      refine lv_bipush (v := (48 : Int32)) hx hb dX8_next_157 (by decide) ?_
                      refine lv_isub hx hb dX8_next_159 ?_
                      refine lv_goto (tgt := 167) hx hb dX8_next_160 (by decide) ?_
                      exact cut_167 fr ((((10 : Int32) * (fr 6)) + (tape (fr 3).toNatClampNeg)) - (48 : Int32)) h _ _ hP hD hS _ (lv_sub hl [0] rfl)
              refine va_put (D := D) (ci := 8) (v := .int (0 : Int32)) (C := RX8) (T := TX8) (N := 8) hx hb hts in_X8 tyX8 tyX8_ok nmX8 hown hK hP hD hS 0 rfl rfl 6 (Nat.le_of_ble_eq_true rfl) (hts _ q377) (fun _ h9 => h9) rfl (tyX8_ok 6 (Nat.le_of_ble_eq_true rfl)) rfl rfl (Nat.le_of_ble_eq_true rfl) dX8_next_109 (fun H locs hP hD hS => ?_)
              have hP : va_P D vwCl [zRd ad ra rm (upd (upd (upd fr 4 (fr 3)) 5 (2 : Int32)) 6 (0 : Int32)), zO ad f g, zA (kk 0) (ad 20) 160 tape] H := hP
              have hD : va_D A [zRd ad ra rm (upd (upd (upd fr 4 (fr 3)) 5 (2 : Int32)) 6 (0 : Int32)), zO ad f g, zA (kk 0) (ad 20) 160 tape] := hD
              obtain ⟨n_112, h⟩ := h
              exact cut_112 n_112 (upd (upd (upd fr 4 (fr 3)) 5 (2 : Int32)) 6 (0 : Int32)) h _ _ hP hD hS _ (lv_sub hl [0] rfl)
          · have h := h.2 c_5
            refine lv_aload_n hx hb dX8_next_62 rfl (lv_at hl 0 rfl) ?_
            refine lv_iconst (v := (1 : Int32)) hx hb dX8_next_63 (by decide) ?_
            have cut_67 : ∀ (nl67 : Nat) (fr : Nat → Int32), wpX8_next_67 tape Q QT (wpX8_next_0 tape Q QT  nl0) nl67 fr → ∀ (H : Heap) (locs : List Loc), va_P D vwCl [zRd ad ra rm fr, zO ad f g, zA (kk 0) (ad 20) 160 tape] H → va_D A [zRd ad ra rm fr, zO ad f g, zA (kk 0) (ad 20) 160 tape] → va_S A s.heap H locs → ∀ ls : Array Slot, lv_has ls 1 [(0, .ref ra)] → W p l e { frames := 5, cells := 1, slots := 8, locals := 134 } s m ([.ref ra] : List Value).toArray below meth c H locs 0 0 (MT below (zQX (fun _ : Unit => none) (fun (_ : Unit) (u : (Nat → Int32)) => Q u) (zB D A (fun u : (Nat → Int32) => [zRd ad ra rm u, zO ad f g, zA (kk 0) (ad 20) 160 tape])) (fun (u : (Int32 × Int32) × ((Nat → Int32))) => QT u.1.1 u.1.2 u.2) (zBT D A (fun (x : Nat) (u : (Int32 × Int32) × ((Nat → Int32))) => [zRd ad ra rm u.2, zO ad f g, zA (kk 0) (ad 20) 160 tape, zF x u.1.1 u.1.2]) (fun _ => "LoseLeague$Fault")) A) ([.ref ra] : List Value).toArray s 1 8 A) (F0 m 67 ls []) := by
              intro nl67
              induction nl67 with
              | zero => intro fr h; exact absurd h id
              | succ nl67 ih_67 =>
                intro fr h H locs hP hD hS ls hl
                have h : wbX8_next_67 tape Q QT (wpX8_next_0 tape Q QT  nl0) (wpX8_next_67 tape Q QT (wpX8_next_0 tape Q QT  nl0) nl67) fr := h
                unfold wbX8_next_67 at h
                refine lv_aload_n hx hb dX8_next_67 rfl (lv_at hl 0 rfl) ?_
                refine lv_bipush (v := (97 : Int32)) hx hb dX8_next_68 (by decide) ?_
                refine lv_bipush (v := (122 : Int32)) hx hb dX8_next_70 (by decide) ?_
                have hrc := va_recv hK hP (ci := 8) (q0 := 0) rfl rfl
                refine zc_i (wc := [zRd ad ra rm fr, zO ad f g, zA (kk 0) (ad 20) 160 tape]) (wr := []) (w1 := (fun u : Unit => [zRd ad ra rm fr, zO ad f g, zA (kk 0) (ad 20) 160 tape])) (rest := []) [0, 1, 2] [] rfl rfl (by decide) (by decide) (by decide) hA hP hD hS (fun hP hD => va_runV (As := [.int (97 : Int32), .int (122 : Int32)]) (rest := []) ⟨hx, hb, hml, hown, hts⟩ (metX8_isIn l D kk ad ra rm _ fr f g tape (97 : Int32) (122 : Int32) _ h) (cwV 2 hts (lw_V q278 q280 qs1 q72 q281) rfl rfl rfl pdX8_isIn ⟨(Nat.le_of_ble_eq_true rfl), (Nat.le_of_ble_eq_true rfl)⟩) (zp_V hK hN hrc hP hD) rfl rfl hl.1 rfl (lv_room (Nat.le_of_ble_eq_true rfl)) dX8_next_72 ⟨(Nat.le_of_ble_eq_true rfl), (Nat.le_of_ble_eq_true rfl)⟩) (fun r_19 u H locs h hP hD hS => ?_)
                try dsimp only at h
                have hP : va_P D vwCl [zRd ad ra rm fr, zO ad f g, zA (kk 0) (ad 20) 160 tape] H := hP
                have hD : va_D A [zRd ad ra rm fr, zO ad f g, zA (kk 0) (ad 20) 160 tape] := hD
                refine lv_if_eq (tgt := 237) hx hb dX8_next_75 (by decide) (fun c_20 => ?_) (fun c_20 => ?_)
                · have h := h.1 c_20
                  refine W.widen (k := 1) (n := 8) (Nat.le_of_ble_eq_true rfl) (Nat.le_of_ble_eq_true rfl) ?_
                  exact zx_v hx hb hr hlk hP hD hS (fr) [0, 1, 2] rfl (by decide) dX8_next_237 h
                · have h := h.2 c_20
                  refine lv_aload_n hx hb dX8_next_78 rfl (lv_at hl 0 rfl) ?_
                  refine lv_dup hx hb dX8_next_79 rfl ?_
                  refine va_get (D := D) (ci := 8) (v := .int (fr 3)) (C := RX8) (T := TX8) (N := 8) hx hb hts in_X8 hown hK hP 0 rfl rfl 3 (Nat.le_of_ble_eq_true rfl) (hts _ q374) (fun _ h9 => h9) rfl dX8_next_80 ?_
                  refine lv_iconst (v := (1 : Int32)) hx hb dX8_next_83 (by decide) ?_
                  refine lv_iadd hx hb dX8_next_84 ?_
                  refine va_put (D := D) (ci := 8) (v := .int ((fr 3) + (1 : Int32))) (C := RX8) (T := TX8) (N := 8) hx hb hts in_X8 tyX8 tyX8_ok nmX8 hown hK hP hD hS 0 rfl rfl 3 (Nat.le_of_ble_eq_true rfl) (hts _ q374) (fun _ h9 => h9) rfl (tyX8_ok 3 (Nat.le_of_ble_eq_true rfl)) rfl rfl (Nat.le_of_ble_eq_true rfl) dX8_next_85 (fun H locs hP hD hS => ?_)
                  have hP : va_P D vwCl [zRd ad ra rm (upd fr 3 ((fr 3) + (1 : Int32))), zO ad f g, zA (kk 0) (ad 20) 160 tape] H := hP
                  have hD : va_D A [zRd ad ra rm (upd fr 3 ((fr 3) + (1 : Int32))), zO ad f g, zA (kk 0) (ad 20) 160 tape] := hD
                  refine lv_goto (tgt := 67) hx hb dX8_next_88 (by decide) ?_
                  exact ih_67 (upd fr 3 ((fr 3) + (1 : Int32))) h _ _ hP hD hS _ (lv_sub hl [0] rfl)
            refine va_put (D := D) (ci := 8) (v := .int (1 : Int32)) (C := RX8) (T := TX8) (N := 8) hx hb hts in_X8 tyX8 tyX8_ok nmX8 hown hK hP hD hS 0 rfl rfl 5 (Nat.le_of_ble_eq_true rfl) (hts _ q376) (fun _ h9 => h9) rfl (tyX8_ok 5 (Nat.le_of_ble_eq_true rfl)) rfl rfl (Nat.le_of_ble_eq_true rfl) dX8_next_64 (fun H locs hP hD hS => ?_)
            have hP : va_P D vwCl [zRd ad ra rm (upd (upd fr 4 (fr 3)) 5 (1 : Int32)), zO ad f g, zA (kk 0) (ad 20) 160 tape] H := hP
            have hD : va_D A [zRd ad ra rm (upd (upd fr 4 (fr 3)) 5 (1 : Int32)), zO ad f g, zA (kk 0) (ad 20) 160 tape] := hD
            obtain ⟨n_67, h⟩ := h
            exact cut_67 n_67 (upd (upd fr 4 (fr 3)) 5 (1 : Int32)) h _ _ hP hD hS _ (lv_sub hl [0] rfl)
        · have h := h.1 c_3
          refine lv_aload_n hx hb dX8_next_43 rfl (lv_at hl 0 rfl) ?_
          refine lv_iconst (v := (0 : Int32)) hx hb dX8_next_44 (by decide) ?_
          refine va_put (D := D) (ci := 8) (v := .int (0 : Int32)) (C := RX8) (T := TX8) (N := 8) hx hb hts in_X8 tyX8 tyX8_ok nmX8 hown hK hP hD hS 0 rfl rfl 5 (Nat.le_of_ble_eq_true rfl) (hts _ q376) (fun _ h9 => h9) rfl (tyX8_ok 5 (Nat.le_of_ble_eq_true rfl)) rfl rfl (Nat.le_of_ble_eq_true rfl) dX8_next_45 (fun H locs hP hD hS => ?_)
          have hP : va_P D vwCl [zRd ad ra rm (upd (upd fr 4 (fr 3)) 5 (0 : Int32)), zO ad f g, zA (kk 0) (ad 20) 160 tape] H := hP
          have hD : va_D A [zRd ad ra rm (upd (upd fr 4 (fr 3)) 5 (0 : Int32)), zO ad f g, zA (kk 0) (ad 20) 160 tape] := hD
          refine lv_goto (tgt := 237) hx hb dX8_next_48 (by decide) ?_
          refine W.widen (k := 1) (n := 8) (Nat.le_of_ble_eq_true rfl) (Nat.le_of_ble_eq_true rfl) ?_
          exact zx_v hx hb hr hlk hP hD hS ((upd (upd fr 4 (fr 3)) 5 (0 : Int32))) [0, 1, 2] rfl (by decide) dX8_next_237 h
      · have h := h.2 c_2
        refine lv_aload_n hx hb dX8_next_11 rfl (lv_at hl 0 rfl) ?_
        refine lv_dup hx hb dX8_next_12 rfl ?_
        refine va_get (D := D) (ci := 8) (v := .int (fr 3)) (C := RX8) (T := TX8) (N := 8) hx hb hts in_X8 hown hK hP 0 rfl rfl 3 (Nat.le_of_ble_eq_true rfl) (hts _ q374) (fun _ h9 => h9) rfl dX8_next_13 ?_
        refine lv_iconst (v := (1 : Int32)) hx hb dX8_next_16 (by decide) ?_
        refine lv_iadd hx hb dX8_next_17 ?_
        refine va_put (D := D) (ci := 8) (v := .int ((fr 3) + (1 : Int32))) (C := RX8) (T := TX8) (N := 8) hx hb hts in_X8 tyX8 tyX8_ok nmX8 hown hK hP hD hS 0 rfl rfl 3 (Nat.le_of_ble_eq_true rfl) (hts _ q374) (fun _ h9 => h9) rfl (tyX8_ok 3 (Nat.le_of_ble_eq_true rfl)) rfl rfl (Nat.le_of_ble_eq_true rfl) dX8_next_18 (fun H locs hP hD hS => ?_)
        have hP : va_P D vwCl [zRd ad ra rm (upd fr 3 ((fr 3) + (1 : Int32))), zO ad f g, zA (kk 0) (ad 20) 160 tape] H := hP
        have hD : va_D A [zRd ad ra rm (upd fr 3 ((fr 3) + (1 : Int32))), zO ad f g, zA (kk 0) (ad 20) 160 tape] := hD
        refine lv_goto (tgt := 0) hx hb dX8_next_21 (by decide) ?_
        exact ih_0 (upd fr 3 ((fr 3) + (1 : Int32))) h _ _ hP hD hS _ (lv_sub hl [0] rfl)
  obtain ⟨n_0, h⟩ := h
  exact cut_0 n_0 fr h _ _ hP hD hS _ (lv_sub hl [0] rfl)
def wpX8_looked_14 (fr : Nat → Int32) (p1 : Int32) (Q : Int32 → Prop) (QT : Int32 → Int32 → Prop) (s1 : Int32) : Prop :=
  (wpX8_need fr s1 (2 : Int32) ((wpX0_in ((fr 6).toInt64) (0 : Int64) (p1.toInt64) (fun r_4 => (wpX8_need fr r_4 (3 : Int32) (Q (fr 6)) (fun a_6 b_7 => QT a_6 b_7))))) (fun a_2 b_3 => QT a_2 b_3))
def wpX8_looked (fr : Nat → Int32) (p1 : Int32) (Q : Int32 → Prop) (QT : Int32 → Int32 → Prop) : Prop :=
  (((fr 5) = (2 : Int32) → wpX8_looked_14 fr p1 Q QT  (1 : Int32)) ∧ (¬ (fr 5) = (2 : Int32) → wpX8_looked_14 fr p1 Q QT  (0 : Int32)))
set_option maxHeartbeats 4000000 in
theorem metX8_looked (l : Launch) (htr : l.stackTraces = false) (D : va_G) (kk : Nat → ClassId) (sg : Nat → Nat) (ad : Nat → Nat) (ra : Nat) (rm : Nat) (sz : Nat) (fr : Nat → Int32) (p1 : Int32) (Q : Int32 → Prop) (QT : Int32 → Int32 → Prop) (h : wpX8_looked fr p1 Q QT) : MetX l yX8_looked (Cond.code yX8_looked cX8_looked 2 (some .int) :: lw_all) { frames := 5, cells := 2, slots := 16, locals := 134 } (va_Pc ([.ref ra, .int p1] : List Value) (zPF D kk sg [zRd ad ra rm fr] sz)) (zQX (fun r : Int32 => some (.int r)) (fun (r : Int32) (u : Unit) => Q r ) (zB D (va_A [zRd ad ra rm fr] sz) (fun u : Unit => [zRd ad ra rm fr])) (fun (u : (Int32 × Int32) × (Unit)) => QT u.1.1 u.1.2 ) (zBT D (va_A [zRd ad ra rm fr] sz) (fun (x : Nat) (u : (Int32 × Int32) × (Unit)) => [zRd ad ra rm fr, zF x u.1.1 u.1.2]) (fun _ => "LoseLeague$Fault")) (va_A [zRd ad ra rm fr] sz)) 2 16 (va_A [zRd ad ra rm fr] sz) := by
  refine zMetFX (Qc := fun A => zQX (fun r : Int32 => some (.int r)) (fun (r : Int32) (u : Unit) => Q r ) (zB D A (fun u : Unit => [zRd ad ra rm fr])) (fun (u : (Int32 × Int32) × (Unit)) => QT u.1.1 u.1.2 ) (zBT D A (fun (x : Nat) (u : (Int32 × Int32) × (Unit)) => [zRd ad ra rm fr, zF x u.1.1 u.1.2]) (fun _ => "LoseLeague$Fault")) A) htr (by decide) (Or.inl ⟨rfl, rfl⟩) (Nat.le_of_ble_eq_true rfl) ?_
  intro p e s m below meth c A X hh hU htab had hP hD hS ls hl
  obtain ⟨hx, hb, hr, hml, hown, hts, hlk, hnm, hK, hN, hA⟩ := X
  have hown : s.vm.findClass "LoseLeague$Reader" = some m.cls := hown
  have hl : lv_has ls 2 [(0, .ref ra), (1, .int p1)] := hl
  have hout : ∀ (pcc : Nat), ∀ y ∈ c.exceptionTable.toList, covers y pcc = false := by
    intro pcc y hy
    rw [List.map_eq_nil_iff.mp htab] at hy
    cases hy
  unfold wpX8_looked at h
  refine lv_aload_n hx hb dX8_looked_0 rfl (lv_at hl 0 rfl) ?_
  refine lv_aload_n hx hb dX8_looked_1 rfl (lv_at hl 0 rfl) ?_
  refine va_get (D := D) (ci := 8) (v := .int (fr 5)) (C := RX8) (T := TX8) (N := 8) hx hb hts in_X8 hown hK hP 0 rfl rfl 5 (Nat.le_of_ble_eq_true rfl) (hts _ q376) (fun _ h9 => h9) rfl dX8_looked_2 ?_
  refine lv_iconst (v := (2 : Int32)) hx hb dX8_looked_5 (by decide) ?_
  have cut_14 : ∀ (s1 : Int32), wpX8_looked_14 fr p1 Q QT  s1 → ∀ (H : Heap) (locs : List Loc), va_P D vwCl [zRd ad ra rm fr] H → va_D A [zRd ad ra rm fr] → va_S A s.heap H locs → ∀ ls : Array Slot, lv_has ls 2 [(0, .ref ra), (1, .int p1)] → W p l e { frames := 5, cells := 2, slots := 16, locals := 134 } s m ([.ref ra, .int p1] : List Value).toArray below meth c H locs 0 0 (MT below (zQX (fun r : Int32 => some (.int r)) (fun (r : Int32) (u : Unit) => Q r ) (zB D A (fun u : Unit => [zRd ad ra rm fr])) (fun (u : (Int32 × Int32) × (Unit)) => QT u.1.1 u.1.2 ) (zBT D A (fun (x : Nat) (u : (Int32 × Int32) × (Unit)) => [zRd ad ra rm fr, zF x u.1.1 u.1.2]) (fun _ => "LoseLeague$Fault")) A) ([.ref ra, .int p1] : List Value).toArray s 2 16 A) (F0 m 14 ls [.int s1, .ref ra]) := by
    intro s1 h H locs hP hD hS ls hl
    unfold wpX8_looked_14 at h
    refine lv_iconst (v := (2 : Int32)) hx hb dX8_looked_14 (by decide) ?_
    have hrc := va_recv hK hP (ci := 8) (q0 := 0) rfl rfl
    refine zx_c (wc := [zRd ad ra rm fr]) (wr := []) (w1 := (fun u : Unit => [zRd ad ra rm fr])) (wT := (fun (x : Nat) (u : (Int32 × Int32) × (Unit)) => [zRd ad ra rm fr, zF x u.1.1 u.1.2])) (CX := fun _ => "LoseLeague$Fault") (rest := []) [0] [] rfl rfl (by decide) (by decide) (by decide) hA hP hD hS (fun hP hD => zx_runV (As := [.int s1, .int (2 : Int32)]) (rest := []) 2 ⟨hx, hb, hml, hown, hts⟩ (metX8_need l htr D kk sg ad ra rm _ fr s1 (2 : Int32) _ _ h) (Or.inl ⟨rfl, rfl⟩) q285 rfl rfl ⟨(Nat.le_of_ble_eq_true rfl), (Nat.le_of_ble_eq_true rfl)⟩ q282 q284 qs2 q72 pdX8_need (zpf_V hK hN hh.2.2.2.1 hU hA hS hh.2.2.2.2.2 hrc hP hD) rfl rfl hl.1 rfl (lv_room (Nat.le_of_ble_eq_true rfl)) dX8_looked_15 ⟨(Nat.le_of_ble_eq_true rfl), (Nat.le_of_ble_eq_true rfl)⟩) (fun _ u H locs h hP hD hS => ?_) (fun x u H locs h hP hD hS hc => ?_)
    rotate_left
    · obtain ⟨⟨a_2, b_3⟩, _⟩ := u
      try dsimp only at h
      have hP : va_P D vwCl [zRd ad ra rm fr, zF x a_2 b_3] H := hP
      have hD : va_D A [zRd ad ra rm fr, zF x a_2 b_3] := hD
      refine WT.widen (k := 2) (n := 16) (Nat.le_of_ble_eq_true rfl) (Nat.le_of_ble_eq_true rfl) ?_
      exact zx_thr hlk (hout _) hP hD hS ((a_2, b_3), ()) [0, 1] rfl (by decide) hc h
    try dsimp only at h
    have hP : va_P D vwCl [zRd ad ra rm fr] H := hP
    have hD : va_D A [zRd ad ra rm fr] := hD
    refine W.eq (g2 := F0 m 18 ls []) rfl ?_
    refine lv_aload_n hx hb dX8_looked_18 rfl (lv_at hl 0 rfl) ?_
    refine lv_aload_n hx hb dX8_looked_19 rfl (lv_at hl 0 rfl) ?_
    refine va_get (D := D) (ci := 8) (v := .int (fr 6)) (C := RX8) (T := TX8) (N := 8) hx hb hts in_X8 hown hK hP 0 rfl rfl 6 (Nat.le_of_ble_eq_true rfl) (hts _ q377) (fun _ h9 => h9) rfl dX8_looked_20 ?_
    refine lv_i2l hx hb dX8_looked_23 rfl ?_
    refine lv_lconst (v := (0 : Int64)) hx hb dX8_looked_24 (by decide) ?_
    refine lv_iload_n hx hb dX8_looked_25 rfl (lv_at hl 1 rfl) ?_
    refine lv_i2l hx hb dX8_looked_26 rfl ?_
    refine zc_i (wc := []) (wr := [zRd ad ra rm fr]) (w1 := (fun u : Unit => [])) (rest := [.ref ra]) [] [0] rfl rfl (by decide) (by decide) (by decide) hA hP hD hS (fun hP hD => va_runSN (As := [.long ((fr 6).toInt64), .long (0 : Int64), .long (p1.toInt64)]) (rest := [.ref ra]) ⟨hx, hb, hml, hown, hts⟩ (metX0_in l D kk _ ((fr 6).toInt64) (0 : Int64) (p1.toInt64) _ h) ⟨va_cnB 3 hts (lw_meth q256) rfl rfl rfl (zN_m hN 10 rfl) (hts _ q64) pdX0_in.2 ⟨(Nat.le_of_ble_eq_true rfl), (Nat.le_of_ble_eq_true rfl)⟩, hts _ q255, trivial⟩ (zp_S hK hN hP hD) rfl rfl hl.1 rfl (lv_room (Nat.le_of_ble_eq_true rfl)) dX8_looked_27 ⟨(Nat.le_of_ble_eq_true rfl), (Nat.le_of_ble_eq_true rfl)⟩) (fun r_4 u H locs h hP hD hS => ?_)
    try dsimp only at h
    have hP : va_P D vwCl [zRd ad ra rm fr] H := hP
    have hD : va_D A [zRd ad ra rm fr] := hD
    refine lv_iconst (v := (3 : Int32)) hx hb dX8_looked_30 (by decide) ?_
    have hrc := va_recv hK hP (ci := 8) (q0 := 0) rfl rfl
    refine zx_c (wc := [zRd ad ra rm fr]) (wr := []) (w1 := (fun u : Unit => [zRd ad ra rm fr])) (wT := (fun (x : Nat) (u : (Int32 × Int32) × (Unit)) => [zRd ad ra rm fr, zF x u.1.1 u.1.2])) (CX := fun _ => "LoseLeague$Fault") (rest := []) [0] [] rfl rfl (by decide) (by decide) (by decide) hA hP hD hS (fun hP hD => zx_runV (As := [.int r_4, .int (3 : Int32)]) (rest := []) 2 ⟨hx, hb, hml, hown, hts⟩ (metX8_need l htr D kk sg ad ra rm _ fr r_4 (3 : Int32) _ _ h) (Or.inl ⟨rfl, rfl⟩) q285 rfl rfl ⟨(Nat.le_of_ble_eq_true rfl), (Nat.le_of_ble_eq_true rfl)⟩ q282 q284 qs2 q72 pdX8_need (zpf_V hK hN hh.2.2.2.1 hU hA hS hh.2.2.2.2.2 hrc hP hD) rfl rfl hl.1 rfl (lv_room (Nat.le_of_ble_eq_true rfl)) dX8_looked_31 ⟨(Nat.le_of_ble_eq_true rfl), (Nat.le_of_ble_eq_true rfl)⟩) (fun _ u H locs h hP hD hS => ?_) (fun x u H locs h hP hD hS hc => ?_)
    rotate_left
    · obtain ⟨⟨a_6, b_7⟩, _⟩ := u
      try dsimp only at h
      have hP : va_P D vwCl [zRd ad ra rm fr, zF x a_6 b_7] H := hP
      have hD : va_D A [zRd ad ra rm fr, zF x a_6 b_7] := hD
      exact zx_thr hlk (hout _) hP hD hS ((a_6, b_7), ()) [0, 1] rfl (by decide) hc h
    try dsimp only at h
    have hP : va_P D vwCl [zRd ad ra rm fr] H := hP
    have hD : va_D A [zRd ad ra rm fr] := hD
    refine W.eq (g2 := F0 m 34 ls []) rfl ?_
    refine lv_aload_n hx hb dX8_looked_34 rfl (lv_at hl 0 rfl) ?_
    refine va_get (D := D) (ci := 8) (v := .int (fr 6)) (C := RX8) (T := TX8) (N := 8) hx hb hts in_X8 hown hK hP 0 rfl rfl 6 (Nat.le_of_ble_eq_true rfl) (hts _ q377) (fun _ h9 => h9) rfl dX8_looked_35 ?_
    exact zx_i hx hb hr hlk rfl hP hD hS () [0] rfl (by decide) dX8_looked_38 h
  refine lv_icmp_ne (tgt := 13) hx hb dX8_looked_6 (by decide) (fun c_8 => ?_) (fun c_8 => ?_)
  · have h := h.2 c_8
    refine lv_iconst (v := (0 : Int32)) hx hb dX8_looked_13 (by decide) ?_
    exact cut_14 (0 : Int32) h _ _ hP hD hS _ (lv_sub hl [0, 1] rfl)
  · have h := h.1 c_8
    refine lv_iconst (v := (1 : Int32)) hx hb dX8_looked_9 (by decide) ?_
    refine lv_goto (tgt := 14) hx hb dX8_looked_10 (by decide) ?_
    exact cut_14 (1 : Int32) h _ _ hP hD hS _ (lv_sub hl [0, 1] rfl)
def wpX8_game_27 (tape : Nat → Int32) (Q : (Nat → Int32) → (Nat → Int32) → (Nat → Int32) → Prop) (QT : Int32 → Int32 → (Nat → Int32) → (Nat → Int32) → (Nat → Int32) → Prop) (fr : Nat → Int32) (flm : Nat → Int32) (fxm : Nat → Int32) (x1 : Int32) (x2 : Int32) (s1 : Int32) : Prop :=
  (wpX8_need fr s1 (3 : Int32) ((wpX8_next fr tape (fun fr_15 => (∀ v_18 : Int32, v_18 = (if (fr_15 2) < (if x1 < x2 then x2 else x1) then (if x1 < x2 then x2 else x1) else (fr_15 2)) → (wpX5_books flm fxm x1 x2 (fun flm_20 fxm_21 => Q (upd fr_15 2 v_18) flm_20 fxm_21)))) (fun a_16 b_17 fr_15 => QT a_16 b_17 fr_15 flm fxm))) (fun a_12 b_13 => QT a_12 b_13 fr flm fxm))
def wpX8_game (fr : Nat → Int32) (flm : Nat → Int32) (fxm : Nat → Int32) (tape : Nat → Int32) (Q : (Nat → Int32) → (Nat → Int32) → (Nat → Int32) → Prop) (QT : Int32 → Int32 → (Nat → Int32) → (Nat → Int32) → (Nat → Int32) → Prop) : Prop :=
  (wpX8_looked fr (4 : Int32) (fun r_1 => (wpX8_next fr tape (fun fr_5 => (wpX8_looked fr_5 (4 : Int32) (fun r_8 => ((r_1 = r_8 → wpX8_game_27 tape Q QT  fr_5 flm fxm r_1 r_8 (0 : Int32)) ∧ (¬ r_1 = r_8 → wpX8_game_27 tape Q QT  fr_5 flm fxm r_1 r_8 (1 : Int32)))) (fun a_9 b_10 => QT a_9 b_10 fr_5 flm fxm))) (fun a_6 b_7 fr_5 => QT a_6 b_7 fr_5 flm fxm))) (fun a_2 b_3 => QT a_2 b_3 fr flm fxm))
set_option maxHeartbeats 4000000 in
theorem metX8_game (l : Launch) (htr : l.stackTraces = false) (D : va_G) (kk : Nat → ClassId) (sg : Nat → Nat) (ad : Nat → Nat) (ra : Nat) (rm : Nat) (rt : Nat) (rx : Nat) (sz : Nat) (fr : Nat → Int32) (flm : Nat → Int32) (twm : Nat → Int32) (fxm : Nat → Int32) (f : Nat → Int32) (g : Nat → Int64) (tape : Nat → Int32) (Q : (Nat → Int32) → (Nat → Int32) → (Nat → Int32) → Prop) (QT : Int32 → Int32 → (Nat → Int32) → (Nat → Int32) → (Nat → Int32) → Prop) (h : wpX8_game fr flm fxm tape Q QT) : MetX l yX8_game (Cond.code yX8_game cX8_game 3 none :: lw_all) { frames := 6, cells := 7, slots := 56, locals := 155 } (va_Pc ([.ref ra] : List Value) (zPF D kk sg [zRd ad ra rm fr, zL rm rt rx flm, zA (kk 0) rt 20 twm, zA (kk 0) rx 20 fxm, zO ad f g, zA (kk 0) (ad 20) 160 tape] sz)) (zQX (fun _ : Unit => none) (fun (_ : Unit) (u : (Nat → Int32) × (Nat → Int32) × (Nat → Int32)) => Q u.1 u.2.1 u.2.2) (zB D (va_A [zRd ad ra rm fr, zL rm rt rx flm, zA (kk 0) rt 20 twm, zA (kk 0) rx 20 fxm, zO ad f g, zA (kk 0) (ad 20) 160 tape] sz) (fun u : (Nat → Int32) × (Nat → Int32) × (Nat → Int32) => [zRd ad ra rm u.1, zL rm rt rx u.2.1, zA (kk 0) rt 20 twm, zA (kk 0) rx 20 u.2.2, zO ad f g, zA (kk 0) (ad 20) 160 tape])) (fun (u : (Int32 × Int32) × ((Nat → Int32) × (Nat → Int32) × (Nat → Int32))) => QT u.1.1 u.1.2 u.2.1 u.2.2.1 u.2.2.2) (zBT D (va_A [zRd ad ra rm fr, zL rm rt rx flm, zA (kk 0) rt 20 twm, zA (kk 0) rx 20 fxm, zO ad f g, zA (kk 0) (ad 20) 160 tape] sz) (fun (x : Nat) (u : (Int32 × Int32) × ((Nat → Int32) × (Nat → Int32) × (Nat → Int32))) => [zRd ad ra rm u.2.1, zL rm rt rx u.2.2.1, zA (kk 0) rt 20 twm, zA (kk 0) rx 20 u.2.2.2, zO ad f g, zA (kk 0) (ad 20) 160 tape, zF x u.1.1 u.1.2]) (fun _ => "LoseLeague$Fault")) (va_A [zRd ad ra rm fr, zL rm rt rx flm, zA (kk 0) rt 20 twm, zA (kk 0) rx 20 fxm, zO ad f g, zA (kk 0) (ad 20) 160 tape] sz)) 7 56 (va_A [zRd ad ra rm fr, zL rm rt rx flm, zA (kk 0) rt 20 twm, zA (kk 0) rx 20 fxm, zO ad f g, zA (kk 0) (ad 20) 160 tape] sz) := by
  refine zMetFX (Qc := fun A => zQX (fun _ : Unit => none) (fun (_ : Unit) (u : (Nat → Int32) × (Nat → Int32) × (Nat → Int32)) => Q u.1 u.2.1 u.2.2) (zB D A (fun u : (Nat → Int32) × (Nat → Int32) × (Nat → Int32) => [zRd ad ra rm u.1, zL rm rt rx u.2.1, zA (kk 0) rt 20 twm, zA (kk 0) rx 20 u.2.2, zO ad f g, zA (kk 0) (ad 20) 160 tape])) (fun (u : (Int32 × Int32) × ((Nat → Int32) × (Nat → Int32) × (Nat → Int32))) => QT u.1.1 u.1.2 u.2.1 u.2.2.1 u.2.2.2) (zBT D A (fun (x : Nat) (u : (Int32 × Int32) × ((Nat → Int32) × (Nat → Int32) × (Nat → Int32))) => [zRd ad ra rm u.2.1, zL rm rt rx u.2.2.1, zA (kk 0) rt 20 twm, zA (kk 0) rx 20 u.2.2.2, zO ad f g, zA (kk 0) (ad 20) 160 tape, zF x u.1.1 u.1.2]) (fun _ => "LoseLeague$Fault")) A) htr (by decide) (Or.inl ⟨rfl, rfl⟩) (Nat.le_of_ble_eq_true rfl) ?_
  intro p e s m below meth c A X hh hU htab had hP hD hS ls hl
  obtain ⟨hx, hb, hr, hml, hown, hts, hlk, hnm, hK, hN, hA⟩ := X
  have hown : s.vm.findClass "LoseLeague$Reader" = some m.cls := hown
  have hl : lv_has ls 3 [(0, .ref ra)] := hl
  have hout : ∀ (pcc : Nat), ∀ y ∈ c.exceptionTable.toList, covers y pcc = false := by
    intro pcc y hy
    rw [List.map_eq_nil_iff.mp htab] at hy
    cases hy
  unfold wpX8_game at h
  refine lv_aload_n hx hb dX8_game_0 rfl (lv_at hl 0 rfl) ?_
  refine lv_iconst (v := (4 : Int32)) hx hb dX8_game_1 (by decide) ?_
  have hrc := va_recv hK hP (ci := 8) (q0 := 0) rfl rfl
  refine zx_c (wc := [zRd ad ra rm fr]) (wr := [zL rm rt rx flm, zA (kk 0) rt 20 twm, zA (kk 0) rx 20 fxm, zO ad f g, zA (kk 0) (ad 20) 160 tape]) (w1 := (fun u : Unit => [zRd ad ra rm fr])) (wT := (fun (x : Nat) (u : (Int32 × Int32) × (Unit)) => [zRd ad ra rm fr, zF x u.1.1 u.1.2])) (CX := fun _ => "LoseLeague$Fault") (rest := []) [0] [1, 2, 3, 4, 5] rfl rfl (by decide) (by decide) (by decide) hA hP hD hS (fun hP hD => zx_runV (As := [.int (4 : Int32)]) (rest := []) 1 ⟨hx, hb, hml, hown, hts⟩ (metX8_looked l htr D kk sg ad ra rm _ fr (4 : Int32) _ _ h) (Or.inl ⟨rfl, rfl⟩) q472 rfl rfl ⟨(Nat.le_of_ble_eq_true rfl), (Nat.le_of_ble_eq_true rfl)⟩ q469 q471 qs9 q72 pdX8_looked (zpf_V hK hN hh.2.2.2.1 hU hA hS hh.2.2.2.2.2 hrc hP hD) rfl rfl hl.1 rfl (lv_room (Nat.le_of_ble_eq_true rfl)) dX8_game_2 ⟨(Nat.le_of_ble_eq_true rfl), (Nat.le_of_ble_eq_true rfl)⟩) (fun r_1 u H locs h hP hD hS => ?_) (fun x u H locs h hP hD hS hc => ?_)
  rotate_left
  · obtain ⟨⟨a_2, b_3⟩, _⟩ := u
    try dsimp only at h
    have hP : va_P D vwCl [zL rm rt rx flm, zA (kk 0) rt 20 twm, zA (kk 0) rx 20 fxm, zO ad f g, zA (kk 0) (ad 20) 160 tape, zRd ad ra rm fr, zF x a_2 b_3] H := hP
    have hD : va_D A [zL rm rt rx flm, zA (kk 0) rt 20 twm, zA (kk 0) rx 20 fxm, zO ad f g, zA (kk 0) (ad 20) 160 tape, zRd ad ra rm fr, zF x a_2 b_3] := hD
    refine WT.widen (k := 7) (n := 56) (Nat.le_of_ble_eq_true rfl) (Nat.le_of_ble_eq_true rfl) ?_
    exact zx_thr hlk (hout _) hP hD hS ((a_2, b_3), (fr, flm, fxm)) [5, 0, 1, 2, 3, 4, 6] rfl (by decide) hc h
  try dsimp only at h
  have hP : va_P D vwCl [zL rm rt rx flm, zA (kk 0) rt 20 twm, zA (kk 0) rx 20 fxm, zO ad f g, zA (kk 0) (ad 20) 160 tape, zRd ad ra rm fr] H := hP
  have hD : va_D A [zL rm rt rx flm, zA (kk 0) rt 20 twm, zA (kk 0) rx 20 fxm, zO ad f g, zA (kk 0) (ad 20) 160 tape, zRd ad ra rm fr] := hD
  refine W.eq (g2 := F0 m 5 ls [.int r_1]) rfl ?_
  refine lv_istore_n (lv' := [(1, .int r_1), (0, .ref ra)]) hx hb dX8_game_5 rfl hl (by decide) rfl (fun ls hl => ?_)
  refine lv_aload_n hx hb dX8_game_6 rfl (lv_at hl 1 rfl) ?_
  have hrc := va_recv hK hP (ci := 8) (q0 := 5) rfl rfl
  refine zx_c (wc := [zRd ad ra rm fr, zO ad f g, zA (kk 0) (ad 20) 160 tape]) (wr := [zL rm rt rx flm, zA (kk 0) rt 20 twm, zA (kk 0) rx 20 fxm]) (w1 := (fun u : (Nat → Int32) => [zRd ad ra rm u, zO ad f g, zA (kk 0) (ad 20) 160 tape])) (wT := (fun (x : Nat) (u : (Int32 × Int32) × ((Nat → Int32))) => [zRd ad ra rm u.2, zO ad f g, zA (kk 0) (ad 20) 160 tape, zF x u.1.1 u.1.2])) (CX := fun _ => "LoseLeague$Fault") (rest := []) [5, 3, 4] [0, 1, 2] rfl rfl (by decide) (by decide) (by decide) hA hP hD hS (fun hP hD => zx_runV (As := []) (rest := []) 0 ⟨hx, hb, hml, hown, hts⟩ (metX8_next l htr D kk sg ad ra rm _ fr f g tape _ _ h) (Or.inl ⟨rfl, rfl⟩) q277 rfl rfl ⟨(Nat.le_of_ble_eq_true rfl), (Nat.le_of_ble_eq_true rfl)⟩ q274 q276 qs0 q72 pdX8_next (zpf_V hK hN hh.2.2.2.1 hU hA hS hh.2.2.2.2.2 hrc hP hD) rfl rfl hl.1 rfl (lv_room (Nat.le_of_ble_eq_true rfl)) dX8_game_7 ⟨(Nat.le_of_ble_eq_true rfl), (Nat.le_of_ble_eq_true rfl)⟩) (fun _ u H locs h hP hD hS => ?_) (fun x u H locs h hP hD hS hc => ?_)
  rotate_left
  · obtain ⟨⟨a_6, b_7⟩, fr_5⟩ := u
    try dsimp only at h
    have hP : va_P D vwCl [zL rm rt rx flm, zA (kk 0) rt 20 twm, zA (kk 0) rx 20 fxm, zRd ad ra rm fr_5, zO ad f g, zA (kk 0) (ad 20) 160 tape, zF x a_6 b_7] H := hP
    have hD : va_D A [zL rm rt rx flm, zA (kk 0) rt 20 twm, zA (kk 0) rx 20 fxm, zRd ad ra rm fr_5, zO ad f g, zA (kk 0) (ad 20) 160 tape, zF x a_6 b_7] := hD
    refine WT.widen (k := 7) (n := 56) (Nat.le_of_ble_eq_true rfl) (Nat.le_of_ble_eq_true rfl) ?_
    exact zx_thr hlk (hout _) hP hD hS ((a_6, b_7), (fr_5, flm, fxm)) [3, 0, 1, 2, 4, 5, 6] rfl (by decide) hc h
  obtain ⟨fr_5, rfl⟩ : ∃ z, z = u := ⟨_, rfl⟩
  try dsimp only at h
  have hP : va_P D vwCl [zL rm rt rx flm, zA (kk 0) rt 20 twm, zA (kk 0) rx 20 fxm, zRd ad ra rm fr_5, zO ad f g, zA (kk 0) (ad 20) 160 tape] H := hP
  have hD : va_D A [zL rm rt rx flm, zA (kk 0) rt 20 twm, zA (kk 0) rx 20 fxm, zRd ad ra rm fr_5, zO ad f g, zA (kk 0) (ad 20) 160 tape] := hD
  refine W.eq (g2 := F0 m 10 ls []) rfl ?_
  refine lv_aload_n hx hb dX8_game_10 rfl (lv_at hl 1 rfl) ?_
  refine lv_iconst (v := (4 : Int32)) hx hb dX8_game_11 (by decide) ?_
  have hrc := va_recv hK hP (ci := 8) (q0 := 3) rfl rfl
  refine zx_c (wc := [zRd ad ra rm fr_5]) (wr := [zL rm rt rx flm, zA (kk 0) rt 20 twm, zA (kk 0) rx 20 fxm, zO ad f g, zA (kk 0) (ad 20) 160 tape]) (w1 := (fun u : Unit => [zRd ad ra rm fr_5])) (wT := (fun (x : Nat) (u : (Int32 × Int32) × (Unit)) => [zRd ad ra rm fr_5, zF x u.1.1 u.1.2])) (CX := fun _ => "LoseLeague$Fault") (rest := []) [3] [0, 1, 2, 4, 5] rfl rfl (by decide) (by decide) (by decide) hA hP hD hS (fun hP hD => zx_runV (As := [.int (4 : Int32)]) (rest := []) 1 ⟨hx, hb, hml, hown, hts⟩ (metX8_looked l htr D kk sg ad ra rm _ fr_5 (4 : Int32) _ _ h) (Or.inl ⟨rfl, rfl⟩) q472 rfl rfl ⟨(Nat.le_of_ble_eq_true rfl), (Nat.le_of_ble_eq_true rfl)⟩ q469 q471 qs9 q72 pdX8_looked (zpf_V hK hN hh.2.2.2.1 hU hA hS hh.2.2.2.2.2 hrc hP hD) rfl rfl hl.1 rfl (lv_room (Nat.le_of_ble_eq_true rfl)) dX8_game_12 ⟨(Nat.le_of_ble_eq_true rfl), (Nat.le_of_ble_eq_true rfl)⟩) (fun r_8 u H locs h hP hD hS => ?_) (fun x u H locs h hP hD hS hc => ?_)
  rotate_left
  · obtain ⟨⟨a_9, b_10⟩, _⟩ := u
    try dsimp only at h
    have hP : va_P D vwCl [zL rm rt rx flm, zA (kk 0) rt 20 twm, zA (kk 0) rx 20 fxm, zO ad f g, zA (kk 0) (ad 20) 160 tape, zRd ad ra rm fr_5, zF x a_9 b_10] H := hP
    have hD : va_D A [zL rm rt rx flm, zA (kk 0) rt 20 twm, zA (kk 0) rx 20 fxm, zO ad f g, zA (kk 0) (ad 20) 160 tape, zRd ad ra rm fr_5, zF x a_9 b_10] := hD
    refine WT.widen (k := 7) (n := 56) (Nat.le_of_ble_eq_true rfl) (Nat.le_of_ble_eq_true rfl) ?_
    exact zx_thr hlk (hout _) hP hD hS ((a_9, b_10), (fr_5, flm, fxm)) [5, 0, 1, 2, 3, 4, 6] rfl (by decide) hc h
  try dsimp only at h
  have hP : va_P D vwCl [zL rm rt rx flm, zA (kk 0) rt 20 twm, zA (kk 0) rx 20 fxm, zO ad f g, zA (kk 0) (ad 20) 160 tape, zRd ad ra rm fr_5] H := hP
  have hD : va_D A [zL rm rt rx flm, zA (kk 0) rt 20 twm, zA (kk 0) rx 20 fxm, zO ad f g, zA (kk 0) (ad 20) 160 tape, zRd ad ra rm fr_5] := hD
  refine W.eq (g2 := F0 m 15 ls [.int r_8]) rfl ?_
  refine lv_istore_n (lv' := [(2, .int r_8), (1, .int r_1), (0, .ref ra)]) hx hb dX8_game_15 rfl hl (by decide) rfl (fun ls hl => ?_)
  refine lv_aload_n hx hb dX8_game_16 rfl (lv_at hl 2 rfl) ?_
  refine lv_iload_n hx hb dX8_game_17 rfl (lv_at hl 1 rfl) ?_
  refine lv_iload_n hx hb dX8_game_18 rfl (lv_at hl 0 rfl) ?_
  have cut_27 : ∀ (fr : Nat → Int32) (flm : Nat → Int32) (fxm : Nat → Int32) (x1 : Int32) (x2 : Int32) (s1 : Int32), wpX8_game_27 tape Q QT  fr flm fxm x1 x2 s1 → ∀ (H : Heap) (locs : List Loc), va_P D vwCl [zRd ad ra rm fr, zL rm rt rx flm, zA (kk 0) rt 20 twm, zA (kk 0) rx 20 fxm, zO ad f g, zA (kk 0) (ad 20) 160 tape] H → va_D A [zRd ad ra rm fr, zL rm rt rx flm, zA (kk 0) rt 20 twm, zA (kk 0) rx 20 fxm, zO ad f g, zA (kk 0) (ad 20) 160 tape] → va_S A s.heap H locs → ∀ ls : Array Slot, lv_has ls 3 [(1, .int x1), (2, .int x2), (0, .ref ra)] → W p l e { frames := 6, cells := 7, slots := 56, locals := 155 } s m ([.ref ra] : List Value).toArray below meth c H locs 5 40 (MT below (zQX (fun _ : Unit => none) (fun (_ : Unit) (u : (Nat → Int32) × (Nat → Int32) × (Nat → Int32)) => Q u.1 u.2.1 u.2.2) (zB D A (fun u : (Nat → Int32) × (Nat → Int32) × (Nat → Int32) => [zRd ad ra rm u.1, zL rm rt rx u.2.1, zA (kk 0) rt 20 twm, zA (kk 0) rx 20 u.2.2, zO ad f g, zA (kk 0) (ad 20) 160 tape])) (fun (u : (Int32 × Int32) × ((Nat → Int32) × (Nat → Int32) × (Nat → Int32))) => QT u.1.1 u.1.2 u.2.1 u.2.2.1 u.2.2.2) (zBT D A (fun (x : Nat) (u : (Int32 × Int32) × ((Nat → Int32) × (Nat → Int32) × (Nat → Int32))) => [zRd ad ra rm u.2.1, zL rm rt rx u.2.2.1, zA (kk 0) rt 20 twm, zA (kk 0) rx 20 u.2.2.2, zO ad f g, zA (kk 0) (ad 20) 160 tape, zF x u.1.1 u.1.2]) (fun _ => "LoseLeague$Fault")) A) ([.ref ra] : List Value).toArray s 7 56 A) (F0 m 27 ls [.int s1, .ref ra]) := by
    intro fr flm fxm x1 x2 s1 h H locs hP hD hS ls hl
    unfold wpX8_game_27 at h
    refine lv_iconst (v := (3 : Int32)) hx hb dX8_game_27 (by decide) ?_
    have hrc := va_recv hK hP (ci := 8) (q0 := 0) rfl rfl
    refine zx_c (wc := [zRd ad ra rm fr]) (wr := [zL rm rt rx flm, zA (kk 0) rt 20 twm, zA (kk 0) rx 20 fxm, zO ad f g, zA (kk 0) (ad 20) 160 tape]) (w1 := (fun u : Unit => [zRd ad ra rm fr])) (wT := (fun (x : Nat) (u : (Int32 × Int32) × (Unit)) => [zRd ad ra rm fr, zF x u.1.1 u.1.2])) (CX := fun _ => "LoseLeague$Fault") (rest := []) [0] [1, 2, 3, 4, 5] rfl rfl (by decide) (by decide) (by decide) hA hP hD hS (fun hP hD => zx_runV (As := [.int s1, .int (3 : Int32)]) (rest := []) 2 ⟨hx, hb, hml, hown, hts⟩ (metX8_need l htr D kk sg ad ra rm _ fr s1 (3 : Int32) _ _ h) (Or.inl ⟨rfl, rfl⟩) q285 rfl rfl ⟨(Nat.le_of_ble_eq_true rfl), (Nat.le_of_ble_eq_true rfl)⟩ q282 q284 qs2 q72 pdX8_need (zpf_V hK hN hh.2.2.2.1 hU hA hS hh.2.2.2.2.2 hrc hP hD) rfl rfl hl.1 rfl (lv_room (Nat.le_of_ble_eq_true rfl)) dX8_game_28 ⟨(Nat.le_of_ble_eq_true rfl), (Nat.le_of_ble_eq_true rfl)⟩) (fun _ u H locs h hP hD hS => ?_) (fun x u H locs h hP hD hS hc => ?_)
    rotate_left
    · obtain ⟨⟨a_12, b_13⟩, _⟩ := u
      try dsimp only at h
      have hP : va_P D vwCl [zL rm rt rx flm, zA (kk 0) rt 20 twm, zA (kk 0) rx 20 fxm, zO ad f g, zA (kk 0) (ad 20) 160 tape, zRd ad ra rm fr, zF x a_12 b_13] H := hP
      have hD : va_D A [zL rm rt rx flm, zA (kk 0) rt 20 twm, zA (kk 0) rx 20 fxm, zO ad f g, zA (kk 0) (ad 20) 160 tape, zRd ad ra rm fr, zF x a_12 b_13] := hD
      refine WT.widen (k := 7) (n := 56) (Nat.le_of_ble_eq_true rfl) (Nat.le_of_ble_eq_true rfl) ?_
      exact zx_thr hlk (hout _) hP hD hS ((a_12, b_13), (fr, flm, fxm)) [5, 0, 1, 2, 3, 4, 6] rfl (by decide) hc h
    try dsimp only at h
    have hP : va_P D vwCl [zL rm rt rx flm, zA (kk 0) rt 20 twm, zA (kk 0) rx 20 fxm, zO ad f g, zA (kk 0) (ad 20) 160 tape, zRd ad ra rm fr] H := hP
    have hD : va_D A [zL rm rt rx flm, zA (kk 0) rt 20 twm, zA (kk 0) rx 20 fxm, zO ad f g, zA (kk 0) (ad 20) 160 tape, zRd ad ra rm fr] := hD
    refine W.eq (g2 := F0 m 31 ls []) rfl ?_
    refine lv_aload_n hx hb dX8_game_31 rfl (lv_at hl 2 rfl) ?_
    have hrc := va_recv hK hP (ci := 8) (q0 := 5) rfl rfl
    refine zx_c (wc := [zRd ad ra rm fr, zO ad f g, zA (kk 0) (ad 20) 160 tape]) (wr := [zL rm rt rx flm, zA (kk 0) rt 20 twm, zA (kk 0) rx 20 fxm]) (w1 := (fun u : (Nat → Int32) => [zRd ad ra rm u, zO ad f g, zA (kk 0) (ad 20) 160 tape])) (wT := (fun (x : Nat) (u : (Int32 × Int32) × ((Nat → Int32))) => [zRd ad ra rm u.2, zO ad f g, zA (kk 0) (ad 20) 160 tape, zF x u.1.1 u.1.2])) (CX := fun _ => "LoseLeague$Fault") (rest := []) [5, 3, 4] [0, 1, 2] rfl rfl (by decide) (by decide) (by decide) hA hP hD hS (fun hP hD => zx_runV (As := []) (rest := []) 0 ⟨hx, hb, hml, hown, hts⟩ (metX8_next l htr D kk sg ad ra rm _ fr f g tape _ _ h) (Or.inl ⟨rfl, rfl⟩) q277 rfl rfl ⟨(Nat.le_of_ble_eq_true rfl), (Nat.le_of_ble_eq_true rfl)⟩ q274 q276 qs0 q72 pdX8_next (zpf_V hK hN hh.2.2.2.1 hU hA hS hh.2.2.2.2.2 hrc hP hD) rfl rfl hl.1 rfl (lv_room (Nat.le_of_ble_eq_true rfl)) dX8_game_32 ⟨(Nat.le_of_ble_eq_true rfl), (Nat.le_of_ble_eq_true rfl)⟩) (fun _ u H locs h hP hD hS => ?_) (fun x u H locs h hP hD hS hc => ?_)
    rotate_left
    · obtain ⟨⟨a_16, b_17⟩, fr_15⟩ := u
      try dsimp only at h
      have hP : va_P D vwCl [zL rm rt rx flm, zA (kk 0) rt 20 twm, zA (kk 0) rx 20 fxm, zRd ad ra rm fr_15, zO ad f g, zA (kk 0) (ad 20) 160 tape, zF x a_16 b_17] H := hP
      have hD : va_D A [zL rm rt rx flm, zA (kk 0) rt 20 twm, zA (kk 0) rx 20 fxm, zRd ad ra rm fr_15, zO ad f g, zA (kk 0) (ad 20) 160 tape, zF x a_16 b_17] := hD
      exact zx_thr hlk (hout _) hP hD hS ((a_16, b_17), (fr_15, flm, fxm)) [3, 0, 1, 2, 4, 5, 6] rfl (by decide) hc h
    obtain ⟨fr_15, rfl⟩ : ∃ z, z = u := ⟨_, rfl⟩
    try dsimp only at h
    have hP : va_P D vwCl [zL rm rt rx flm, zA (kk 0) rt 20 twm, zA (kk 0) rx 20 fxm, zRd ad ra rm fr_15, zO ad f g, zA (kk 0) (ad 20) 160 tape] H := hP
    have hD : va_D A [zL rm rt rx flm, zA (kk 0) rt 20 twm, zA (kk 0) rx 20 fxm, zRd ad ra rm fr_15, zO ad f g, zA (kk 0) (ad 20) 160 tape] := hD
    refine W.eq (g2 := F0 m 35 ls []) rfl ?_
    refine lv_aload_n hx hb dX8_game_35 rfl (lv_at hl 2 rfl) ?_
    refine lv_aload_n hx hb dX8_game_36 rfl (lv_at hl 2 rfl) ?_
    refine va_get (D := D) (ci := 8) (v := .int (fr_15 2)) (C := RX8) (T := TX8) (N := 8) hx hb hts in_X8 hown hK hP 3 rfl rfl 2 (Nat.le_of_ble_eq_true rfl) (hts _ q373) (fun _ h9 => h9) rfl dX8_game_37 ?_
    refine lv_iload_n hx hb dX8_game_40 rfl (lv_at hl 0 rfl) ?_
    refine lv_iload_n hx hb dX8_game_41 rfl (lv_at hl 1 rfl) ?_
    refine va_mmax hx hb (by rw [hml]; exact hl.1.symm) hown (hts _ q474) (hts _ q475) (hts _ q80) (hts _ q476) (Nat.le_of_ble_eq_true rfl) (Nat.le_of_ble_eq_true rfl) (Nat.le_of_ble_eq_true rfl) (Nat.le_of_ble_eq_true rfl) dX8_game_42 ?_
    refine va_mmax hx hb (by rw [hml]; exact hl.1.symm) hown (hts _ q474) (hts _ q475) (hts _ q80) (hts _ q476) (Nat.le_of_ble_eq_true rfl) (Nat.le_of_ble_eq_true rfl) (Nat.le_of_ble_eq_true rfl) (Nat.le_of_ble_eq_true rfl) dX8_game_45 ?_
    refine lv_topi (fun v_18 ev_18 => ?_)
    have h := h v_18 ev_18
    refine va_put (D := D) (ci := 8) (v := .int v_18) (C := RX8) (T := TX8) (N := 8) hx hb hts in_X8 tyX8 tyX8_ok nmX8 hown hK hP hD hS 3 rfl rfl 2 (Nat.le_of_ble_eq_true rfl) (hts _ q373) (fun _ h9 => h9) rfl (tyX8_ok 2 (Nat.le_of_ble_eq_true rfl)) rfl rfl (Nat.le_of_ble_eq_true rfl) dX8_game_48 (fun H locs hP hD hS => ?_)
    have hP : va_P D vwCl [zL rm rt rx flm, zA (kk 0) rt 20 twm, zA (kk 0) rx 20 fxm, zRd ad ra rm (upd fr_15 2 v_18), zO ad f g, zA (kk 0) (ad 20) 160 tape] H := hP
    have hD : va_D A [zL rm rt rx flm, zA (kk 0) rt 20 twm, zA (kk 0) rx 20 fxm, zRd ad ra rm (upd fr_15 2 v_18), zO ad f g, zA (kk 0) (ad 20) 160 tape] := hD
    refine lv_aload_n hx hb dX8_game_51 rfl (lv_at hl 2 rfl) ?_
    refine va_get (D := D) (ci := 8) (v := .ref rm) (C := RX8) (T := TX8) (N := 8) hx hb hts in_X8 hown hK hP 3 rfl rfl 1 (Nat.le_of_ble_eq_true rfl) (hts _ q371) (fun _ h9 => h9) rfl dX8_game_52 ?_
    refine lv_iload_n hx hb dX8_game_55 rfl (lv_at hl 0 rfl) ?_
    refine lv_iload_n hx hb dX8_game_56 rfl (lv_at hl 1 rfl) ?_
    have hrc := va_recv hK hP (ci := 5) (q0 := 0) rfl rfl
    refine zc_v (wc := [zL rm rt rx flm, zA (kk 0) rt 20 twm, zA (kk 0) rx 20 fxm]) (wr := [zRd ad ra rm (upd fr_15 2 v_18), zO ad f g, zA (kk 0) (ad 20) 160 tape]) (w1 := (fun u : (Nat → Int32) × (Nat → Int32) => [zL rm rt rx u.1, zA (kk 0) rt 20 twm, zA (kk 0) rx 20 u.2])) (rest := []) [0, 1, 2] [3, 4, 5] rfl rfl (by decide) (by decide) (by decide) hA hP hD hS (fun hP hD => va_runV (As := [.int x1, .int x2]) (rest := []) ⟨hx, hb, hml, hown, hts⟩ (metX5_books l D kk rm rt rx _ flm twm fxm x1 x2 _ h) (cwV 2 hts (lw_V q477 q478 q479 q69 q480) rfl rfl rfl pdX5_books ⟨(Nat.le_of_ble_eq_true rfl), (Nat.le_of_ble_eq_true rfl)⟩) (zp_V hK hN hrc hP hD) rfl rfl hl.1 rfl (lv_room (Nat.le_of_ble_eq_true rfl)) dX8_game_57 ⟨(Nat.le_of_ble_eq_true rfl), (Nat.le_of_ble_eq_true rfl)⟩) (fun u H locs h hP hD hS => ?_)
    obtain ⟨flm_20, fxm_21⟩ := u
    try dsimp only at h
    have hP : va_P D vwCl [zRd ad ra rm (upd fr_15 2 v_18), zO ad f g, zA (kk 0) (ad 20) 160 tape, zL rm rt rx flm_20, zA (kk 0) rt 20 twm, zA (kk 0) rx 20 fxm_21] H := hP
    have hD : va_D A [zRd ad ra rm (upd fr_15 2 v_18), zO ad f g, zA (kk 0) (ad 20) 160 tape, zL rm rt rx flm_20, zA (kk 0) rt 20 twm, zA (kk 0) rx 20 fxm_21] := hD
    exact zx_v hx hb hr hlk hP hD hS ((upd fr_15 2 v_18), flm_20, fxm_21) [0, 3, 4, 5, 1, 2] rfl (by decide) dX8_game_60 h
  refine lv_icmp_eq (tgt := 26) hx hb dX8_game_19 (by decide) (fun c_22 => ?_) (fun c_22 => ?_)
  · have h := h.1 c_22
    refine lv_iconst (v := (0 : Int32)) hx hb dX8_game_26 (by decide) ?_
    exact cut_27 fr_5 flm fxm r_1 r_8 (0 : Int32) h _ _ (hP.sub [5, 0, 1, 2, 3, 4] rfl) (hD.sub [5, 0, 1, 2, 3, 4] (by decide) rfl) hS _ (lv_sub hl [1, 0, 2] rfl)
  · have h := h.2 c_22
    refine lv_iconst (v := (1 : Int32)) hx hb dX8_game_22 (by decide) ?_
    refine lv_goto (tgt := 27) hx hb dX8_game_23 (by decide) ?_
    exact cut_27 fr_5 flm fxm r_1 r_8 (1 : Int32) h _ _ (hP.sub [5, 0, 1, 2, 3, 4] rfl) (hD.sub [5, 0, 1, 2, 3, 4] (by decide) rfl) hS _ (lv_sub hl [1, 0, 2] rfl)
def wpX8_line_130 (tape : Nat → Int32) (Q : (Nat → Int32) → (Nat → Int32) → (Nat → Int32) → (Nat → Int32) → Prop) (QT : Int32 → Int32 → (Nat → Int32) → (Nat → Int32) → (Nat → Int32) → (Nat → Int32) → Prop) (k2 : (Nat → Int32) → (Nat → Int32) → (Nat → Int32) → (Nat → Int32) → Int32 → Prop) (fr : Nat → Int32) (flm : Nat → Int32) (twm : Nat → Int32) (fxm : Nat → Int32) (s1 : Int32) : Prop :=
  (wpX8_need fr s1 (2 : Int32) ((wpX8_next fr tape (fun fr_15 => Q fr_15 flm twm fxm) (fun a_16 b_17 fr_15 => QT a_16 b_17 fr_15 flm twm fxm))) (fun a_12 b_13 => QT a_12 b_13 fr flm twm fxm))
def wpX8_line_116 (tape : Nat → Int32) (Q : (Nat → Int32) → (Nat → Int32) → (Nat → Int32) → (Nat → Int32) → Prop) (QT : Int32 → Int32 → (Nat → Int32) → (Nat → Int32) → (Nat → Int32) → (Nat → Int32) → Prop) (k2 : (Nat → Int32) → (Nat → Int32) → (Nat → Int32) → (Nat → Int32) → Int32 → Prop) (fr : Nat → Int32) (flm : Nat → Int32) (twm : Nat → Int32) (fxm : Nat → Int32) : Prop :=
  (((fr 5) = (3 : Int32) → wpX8_line_130 tape Q QT k2 fr flm twm fxm (1 : Int32)) ∧ (¬ (fr 5) = (3 : Int32) → wpX8_line_130 tape Q QT k2 fr flm twm fxm (0 : Int32)))
def wpX8_line_78 (tape : Nat → Int32) (Q : (Nat → Int32) → (Nat → Int32) → (Nat → Int32) → (Nat → Int32) → Prop) (QT : Int32 → Int32 → (Nat → Int32) → (Nat → Int32) → (Nat → Int32) → (Nat → Int32) → Prop) (k2 : (Nat → Int32) → (Nat → Int32) → (Nat → Int32) → (Nat → Int32) → Int32 → Prop) (fr : Nat → Int32) (flm : Nat → Int32) (twm : Nat → Int32) (fxm : Nat → Int32) (x1 : Int32) (s1 : Int32) : Prop :=
  (wpX8_need fr s1 (5 : Int32) ((wpX8_next fr tape (fun fr_8 => ((x1 = (4 : Int32) → (wpX8_game fr_8 flm fxm tape (fun fr_31 flm_32 fxm_33 => wpX8_line_116 tape Q QT k2 fr_31 flm_32 twm fxm_33) (fun a_34 b_35 fr_31 flm_32 fxm_33 => QT a_34 b_35 fr_31 flm_32 twm fxm_33))) ∧ (¬ x1 = (4 : Int32) → (wpX8_looked fr_8 (20 : Int32) (fun r_20 => (wpX5_joins flm twm x1 r_20 (fun flm_24 twm_25 => (wpX8_next fr_8 tape (fun fr_27 => wpX8_line_116 tape Q QT k2 fr_27 flm_24 twm_25 fxm) (fun a_28 b_29 fr_27 => QT a_28 b_29 fr_27 flm_24 twm_25 fxm))))) (fun a_21 b_22 => QT a_21 b_22 fr_8 flm twm fxm))))) (fun a_9 b_10 fr_8 => QT a_9 b_10 fr_8 flm twm fxm))) (fun a_5 b_6 => QT a_5 b_6 fr flm twm fxm))
def wpX8_line_32 (tape : Nat → Int32) (Q : (Nat → Int32) → (Nat → Int32) → (Nat → Int32) → (Nat → Int32) → Prop) (QT : Int32 → Int32 → (Nat → Int32) → (Nat → Int32) → (Nat → Int32) → (Nat → Int32) → Prop) (k2 : (Nat → Int32) → (Nat → Int32) → (Nat → Int32) → (Nat → Int32) → Int32 → Prop) (fr : Nat → Int32) (flm : Nat → Int32) (twm : Nat → Int32) (fxm : Nat → Int32) (x1 : Int32) (s1 : Int32) : Prop :=
  (wpX8_need fr s1 (2 : Int32) (((x1 = (4 : Int32) → (((10 : Int32) ≤ (flm 2) → wpX8_line_78 tape Q QT k2 fr flm twm fxm x1 (0 : Int32)) ∧ (¬ (10 : Int32) ≤ (flm 2) → wpX8_line_78 tape Q QT k2 fr flm twm fxm x1 (1 : Int32)))) ∧ (¬ x1 = (4 : Int32) → (((5 : Int32) ≤ (flm 0) → wpX8_line_78 tape Q QT k2 fr flm twm fxm x1 (0 : Int32)) ∧ (¬ (5 : Int32) ≤ (flm 0) → wpX8_line_78 tape Q QT k2 fr flm twm fxm x1 (1 : Int32)))))) (fun a_2 b_3 => QT a_2 b_3 fr flm twm fxm))
def wpX8_line_21 (tape : Nat → Int32) (Q : (Nat → Int32) → (Nat → Int32) → (Nat → Int32) → (Nat → Int32) → Prop) (QT : Int32 → Int32 → (Nat → Int32) → (Nat → Int32) → (Nat → Int32) → (Nat → Int32) → Prop) (k2 : (Nat → Int32) → (Nat → Int32) → (Nat → Int32) → (Nat → Int32) → Int32 → Prop) (fr : Nat → Int32) (flm : Nat → Int32) (twm : Nat → Int32) (fxm : Nat → Int32) (x1 : Int32) : Prop :=
  (((4 : Int32) < x1 → wpX8_line_32 tape Q QT k2 fr flm twm fxm x1 (0 : Int32)) ∧ (¬ (4 : Int32) < x1 → wpX8_line_32 tape Q QT k2 fr flm twm fxm x1 (1 : Int32)))
def wbX8_line_2 (tape : Nat → Int32) (Q : (Nat → Int32) → (Nat → Int32) → (Nat → Int32) → (Nat → Int32) → Prop) (QT : Int32 → Int32 → (Nat → Int32) → (Nat → Int32) → (Nat → Int32) → (Nat → Int32) → Prop) (k2 : (Nat → Int32) → (Nat → Int32) → (Nat → Int32) → (Nat → Int32) → Int32 → Prop) (fr : Nat → Int32) (flm : Nat → Int32) (twm : Nat → Int32) (fxm : Nat → Int32) (x1 : Int32) : Prop :=
  (((4 : Int32) < x1 → wpX8_line_21 tape Q QT k2 fr flm twm fxm x1) ∧ (¬ (4 : Int32) < x1 → (wpX8_is fr tape x1 (fun r_41 => ((r_41 = 0 → k2 fr flm twm fxm (x1 + 1)) ∧ (¬ r_41 = 0 → wpX8_line_21 tape Q QT k2 fr flm twm fxm x1))))))
def wpX8_line_2 (tape : Nat → Int32) (Q : (Nat → Int32) → (Nat → Int32) → (Nat → Int32) → (Nat → Int32) → Prop) (QT : Int32 → Int32 → (Nat → Int32) → (Nat → Int32) → (Nat → Int32) → (Nat → Int32) → Prop) (n : Nat) : (Nat → Int32) → (Nat → Int32) → (Nat → Int32) → (Nat → Int32) → Int32 → Prop :=
  Nat.rec (motive := fun _ => (Nat → Int32) → (Nat → Int32) → (Nat → Int32) → (Nat → Int32) → Int32 → Prop) (fun _ _ _ _ _ => False) (fun _ k => wbX8_line_2 tape Q QT  k) n
def wpX8_line (fr : Nat → Int32) (flm : Nat → Int32) (twm : Nat → Int32) (fxm : Nat → Int32) (tape : Nat → Int32) (Q : (Nat → Int32) → (Nat → Int32) → (Nat → Int32) → (Nat → Int32) → Prop) (QT : Int32 → Int32 → (Nat → Int32) → (Nat → Int32) → (Nat → Int32) → (Nat → Int32) → Prop) : Prop :=
  (∃ n : Nat, wpX8_line_2 tape Q QT  n fr flm twm fxm (0 : Int32))
set_option maxHeartbeats 4000000 in
theorem metX8_line (l : Launch) (htr : l.stackTraces = false) (D : va_G) (kk : Nat → ClassId) (sg : Nat → Nat) (ad : Nat → Nat) (ra : Nat) (rm : Nat) (rt : Nat) (rx : Nat) (sz : Nat) (fr : Nat → Int32) (flm : Nat → Int32) (twm : Nat → Int32) (fxm : Nat → Int32) (f : Nat → Int32) (g : Nat → Int64) (tape : Nat → Int32) (Q : (Nat → Int32) → (Nat → Int32) → (Nat → Int32) → (Nat → Int32) → Prop) (QT : Int32 → Int32 → (Nat → Int32) → (Nat → Int32) → (Nat → Int32) → (Nat → Int32) → Prop) (h : wpX8_line fr flm twm fxm tape Q QT) : MetX l yX8_line (Cond.code yX8_line cX8_line 2 none :: lw_all) { frames := 7, cells := 12, slots := 96, locals := 177 } (va_Pc ([.ref ra] : List Value) (zPF D kk sg [zRd ad ra rm fr, zL rm rt rx flm, zA (kk 0) rt 20 twm, zA (kk 0) rx 20 fxm, zO ad f g, zA (kk 0) (ad 20) 160 tape] sz)) (zQX (fun _ : Unit => none) (fun (_ : Unit) (u : (Nat → Int32) × (Nat → Int32) × (Nat → Int32) × (Nat → Int32)) => Q u.1 u.2.1 u.2.2.1 u.2.2.2) (zB D (va_A [zRd ad ra rm fr, zL rm rt rx flm, zA (kk 0) rt 20 twm, zA (kk 0) rx 20 fxm, zO ad f g, zA (kk 0) (ad 20) 160 tape] sz) (fun u : (Nat → Int32) × (Nat → Int32) × (Nat → Int32) × (Nat → Int32) => [zRd ad ra rm u.1, zL rm rt rx u.2.1, zA (kk 0) rt 20 u.2.2.1, zA (kk 0) rx 20 u.2.2.2, zO ad f g, zA (kk 0) (ad 20) 160 tape])) (fun (u : (Int32 × Int32) × ((Nat → Int32) × (Nat → Int32) × (Nat → Int32) × (Nat → Int32))) => QT u.1.1 u.1.2 u.2.1 u.2.2.1 u.2.2.2.1 u.2.2.2.2) (zBT D (va_A [zRd ad ra rm fr, zL rm rt rx flm, zA (kk 0) rt 20 twm, zA (kk 0) rx 20 fxm, zO ad f g, zA (kk 0) (ad 20) 160 tape] sz) (fun (x : Nat) (u : (Int32 × Int32) × ((Nat → Int32) × (Nat → Int32) × (Nat → Int32) × (Nat → Int32))) => [zRd ad ra rm u.2.1, zL rm rt rx u.2.2.1, zA (kk 0) rt 20 u.2.2.2.1, zA (kk 0) rx 20 u.2.2.2.2, zO ad f g, zA (kk 0) (ad 20) 160 tape, zF x u.1.1 u.1.2]) (fun _ => "LoseLeague$Fault")) (va_A [zRd ad ra rm fr, zL rm rt rx flm, zA (kk 0) rt 20 twm, zA (kk 0) rx 20 fxm, zO ad f g, zA (kk 0) (ad 20) 160 tape] sz)) 12 96 (va_A [zRd ad ra rm fr, zL rm rt rx flm, zA (kk 0) rt 20 twm, zA (kk 0) rx 20 fxm, zO ad f g, zA (kk 0) (ad 20) 160 tape] sz) := by
  refine zMetFX (Qc := fun A => zQX (fun _ : Unit => none) (fun (_ : Unit) (u : (Nat → Int32) × (Nat → Int32) × (Nat → Int32) × (Nat → Int32)) => Q u.1 u.2.1 u.2.2.1 u.2.2.2) (zB D A (fun u : (Nat → Int32) × (Nat → Int32) × (Nat → Int32) × (Nat → Int32) => [zRd ad ra rm u.1, zL rm rt rx u.2.1, zA (kk 0) rt 20 u.2.2.1, zA (kk 0) rx 20 u.2.2.2, zO ad f g, zA (kk 0) (ad 20) 160 tape])) (fun (u : (Int32 × Int32) × ((Nat → Int32) × (Nat → Int32) × (Nat → Int32) × (Nat → Int32))) => QT u.1.1 u.1.2 u.2.1 u.2.2.1 u.2.2.2.1 u.2.2.2.2) (zBT D A (fun (x : Nat) (u : (Int32 × Int32) × ((Nat → Int32) × (Nat → Int32) × (Nat → Int32) × (Nat → Int32))) => [zRd ad ra rm u.2.1, zL rm rt rx u.2.2.1, zA (kk 0) rt 20 u.2.2.2.1, zA (kk 0) rx 20 u.2.2.2.2, zO ad f g, zA (kk 0) (ad 20) 160 tape, zF x u.1.1 u.1.2]) (fun _ => "LoseLeague$Fault")) A) htr (by decide) (Or.inl ⟨rfl, rfl⟩) (Nat.le_of_ble_eq_true rfl) ?_
  intro p e s m below meth c A X hh hU htab had hP hD hS ls hl
  obtain ⟨hx, hb, hr, hml, hown, hts, hlk, hnm, hK, hN, hA⟩ := X
  have hown : s.vm.findClass "LoseLeague$Reader" = some m.cls := hown
  have hl : lv_has ls 2 [(0, .ref ra)] := hl
  have hout : ∀ (pcc : Nat), ∀ y ∈ c.exceptionTable.toList, covers y pcc = false := by
    intro pcc y hy
    rw [List.map_eq_nil_iff.mp htab] at hy
    cases hy
  unfold wpX8_line at h
  refine lv_iconst (v := (0 : Int32)) hx hb dX8_line_0 (by decide) ?_
  have cut_2 : ∀ (nl2 : Nat) (fr : Nat → Int32) (flm : Nat → Int32) (twm : Nat → Int32) (fxm : Nat → Int32) (x1 : Int32), wpX8_line_2 tape Q QT  nl2 fr flm twm fxm x1 → ∀ (H : Heap) (locs : List Loc), va_P D vwCl [zRd ad ra rm fr, zL rm rt rx flm, zA (kk 0) rt 20 twm, zA (kk 0) rx 20 fxm, zO ad f g, zA (kk 0) (ad 20) 160 tape] H → va_D A [zRd ad ra rm fr, zL rm rt rx flm, zA (kk 0) rt 20 twm, zA (kk 0) rx 20 fxm, zO ad f g, zA (kk 0) (ad 20) 160 tape] → va_S A s.heap H locs → ∀ ls : Array Slot, lv_has ls 2 [(1, .int x1), (0, .ref ra)] → W p l e { frames := 7, cells := 12, slots := 96, locals := 177 } s m ([.ref ra] : List Value).toArray below meth c H locs 0 0 (MT below (zQX (fun _ : Unit => none) (fun (_ : Unit) (u : (Nat → Int32) × (Nat → Int32) × (Nat → Int32) × (Nat → Int32)) => Q u.1 u.2.1 u.2.2.1 u.2.2.2) (zB D A (fun u : (Nat → Int32) × (Nat → Int32) × (Nat → Int32) × (Nat → Int32) => [zRd ad ra rm u.1, zL rm rt rx u.2.1, zA (kk 0) rt 20 u.2.2.1, zA (kk 0) rx 20 u.2.2.2, zO ad f g, zA (kk 0) (ad 20) 160 tape])) (fun (u : (Int32 × Int32) × ((Nat → Int32) × (Nat → Int32) × (Nat → Int32) × (Nat → Int32))) => QT u.1.1 u.1.2 u.2.1 u.2.2.1 u.2.2.2.1 u.2.2.2.2) (zBT D A (fun (x : Nat) (u : (Int32 × Int32) × ((Nat → Int32) × (Nat → Int32) × (Nat → Int32) × (Nat → Int32))) => [zRd ad ra rm u.2.1, zL rm rt rx u.2.2.1, zA (kk 0) rt 20 u.2.2.2.1, zA (kk 0) rx 20 u.2.2.2.2, zO ad f g, zA (kk 0) (ad 20) 160 tape, zF x u.1.1 u.1.2]) (fun _ => "LoseLeague$Fault")) A) ([.ref ra] : List Value).toArray s 12 96 A) (F0 m 2 ls []) := by
    intro nl2
    induction nl2 with
    | zero => intro fr flm twm fxm x1 h; exact absurd h id
    | succ nl2 ih_2 =>
      intro fr flm twm fxm x1 h H locs hP hD hS ls hl
      have h : wbX8_line_2 tape Q QT  (wpX8_line_2 tape Q QT  nl2) fr flm twm fxm x1 := h
      unfold wbX8_line_2 at h
      refine lv_iload_n hx hb dX8_line_2 rfl (lv_at hl 0 rfl) ?_
      refine lv_iconst (v := (4 : Int32)) hx hb dX8_line_3 (by decide) ?_
      have cut_21 : ∀ (fr : Nat → Int32) (flm : Nat → Int32) (twm : Nat → Int32) (fxm : Nat → Int32) (x1 : Int32), wpX8_line_21 tape Q QT (wpX8_line_2 tape Q QT  nl2) fr flm twm fxm x1 → ∀ (H : Heap) (locs : List Loc), va_P D vwCl [zRd ad ra rm fr, zL rm rt rx flm, zA (kk 0) rt 20 twm, zA (kk 0) rx 20 fxm, zO ad f g, zA (kk 0) (ad 20) 160 tape] H → va_D A [zRd ad ra rm fr, zL rm rt rx flm, zA (kk 0) rt 20 twm, zA (kk 0) rx 20 fxm, zO ad f g, zA (kk 0) (ad 20) 160 tape] → va_S A s.heap H locs → ∀ ls : Array Slot, lv_has ls 2 [(1, .int x1), (0, .ref ra)] → W p l e { frames := 7, cells := 12, slots := 96, locals := 177 } s m ([.ref ra] : List Value).toArray below meth c H locs 0 0 (MT below (zQX (fun _ : Unit => none) (fun (_ : Unit) (u : (Nat → Int32) × (Nat → Int32) × (Nat → Int32) × (Nat → Int32)) => Q u.1 u.2.1 u.2.2.1 u.2.2.2) (zB D A (fun u : (Nat → Int32) × (Nat → Int32) × (Nat → Int32) × (Nat → Int32) => [zRd ad ra rm u.1, zL rm rt rx u.2.1, zA (kk 0) rt 20 u.2.2.1, zA (kk 0) rx 20 u.2.2.2, zO ad f g, zA (kk 0) (ad 20) 160 tape])) (fun (u : (Int32 × Int32) × ((Nat → Int32) × (Nat → Int32) × (Nat → Int32) × (Nat → Int32))) => QT u.1.1 u.1.2 u.2.1 u.2.2.1 u.2.2.2.1 u.2.2.2.2) (zBT D A (fun (x : Nat) (u : (Int32 × Int32) × ((Nat → Int32) × (Nat → Int32) × (Nat → Int32) × (Nat → Int32))) => [zRd ad ra rm u.2.1, zL rm rt rx u.2.2.1, zA (kk 0) rt 20 u.2.2.2.1, zA (kk 0) rx 20 u.2.2.2.2, zO ad f g, zA (kk 0) (ad 20) 160 tape, zF x u.1.1 u.1.2]) (fun _ => "LoseLeague$Fault")) A) ([.ref ra] : List Value).toArray s 12 96 A) (F0 m 21 ls []) := by
        intro fr flm twm fxm x1 h H locs hP hD hS ls hl
        unfold wpX8_line_21 at h
        refine lv_aload_n hx hb dX8_line_21 rfl (lv_at hl 1 rfl) ?_
        refine lv_iload_n hx hb dX8_line_22 rfl (lv_at hl 0 rfl) ?_
        refine lv_iconst (v := (4 : Int32)) hx hb dX8_line_23 (by decide) ?_
        have cut_32 : ∀ (fr : Nat → Int32) (flm : Nat → Int32) (twm : Nat → Int32) (fxm : Nat → Int32) (x1 : Int32) (s1 : Int32), wpX8_line_32 tape Q QT (wpX8_line_2 tape Q QT  nl2) fr flm twm fxm x1 s1 → ∀ (H : Heap) (locs : List Loc), va_P D vwCl [zRd ad ra rm fr, zL rm rt rx flm, zA (kk 0) rt 20 twm, zA (kk 0) rx 20 fxm, zO ad f g, zA (kk 0) (ad 20) 160 tape] H → va_D A [zRd ad ra rm fr, zL rm rt rx flm, zA (kk 0) rt 20 twm, zA (kk 0) rx 20 fxm, zO ad f g, zA (kk 0) (ad 20) 160 tape] → va_S A s.heap H locs → ∀ ls : Array Slot, lv_has ls 2 [(1, .int x1), (0, .ref ra)] → W p l e { frames := 7, cells := 12, slots := 96, locals := 177 } s m ([.ref ra] : List Value).toArray below meth c H locs 0 0 (MT below (zQX (fun _ : Unit => none) (fun (_ : Unit) (u : (Nat → Int32) × (Nat → Int32) × (Nat → Int32) × (Nat → Int32)) => Q u.1 u.2.1 u.2.2.1 u.2.2.2) (zB D A (fun u : (Nat → Int32) × (Nat → Int32) × (Nat → Int32) × (Nat → Int32) => [zRd ad ra rm u.1, zL rm rt rx u.2.1, zA (kk 0) rt 20 u.2.2.1, zA (kk 0) rx 20 u.2.2.2, zO ad f g, zA (kk 0) (ad 20) 160 tape])) (fun (u : (Int32 × Int32) × ((Nat → Int32) × (Nat → Int32) × (Nat → Int32) × (Nat → Int32))) => QT u.1.1 u.1.2 u.2.1 u.2.2.1 u.2.2.2.1 u.2.2.2.2) (zBT D A (fun (x : Nat) (u : (Int32 × Int32) × ((Nat → Int32) × (Nat → Int32) × (Nat → Int32) × (Nat → Int32))) => [zRd ad ra rm u.2.1, zL rm rt rx u.2.2.1, zA (kk 0) rt 20 u.2.2.2.1, zA (kk 0) rx 20 u.2.2.2.2, zO ad f g, zA (kk 0) (ad 20) 160 tape, zF x u.1.1 u.1.2]) (fun _ => "LoseLeague$Fault")) A) ([.ref ra] : List Value).toArray s 12 96 A) (F0 m 32 ls [.int s1, .ref ra]) := by
          intro fr flm twm fxm x1 s1 h H locs hP hD hS ls hl
          unfold wpX8_line_32 at h
          refine lv_iconst (v := (2 : Int32)) hx hb dX8_line_32 (by decide) ?_
          have hrc := va_recv hK hP (ci := 8) (q0 := 0) rfl rfl
          refine zx_c (wc := [zRd ad ra rm fr]) (wr := [zL rm rt rx flm, zA (kk 0) rt 20 twm, zA (kk 0) rx 20 fxm, zO ad f g, zA (kk 0) (ad 20) 160 tape]) (w1 := (fun u : Unit => [zRd ad ra rm fr])) (wT := (fun (x : Nat) (u : (Int32 × Int32) × (Unit)) => [zRd ad ra rm fr, zF x u.1.1 u.1.2])) (CX := fun _ => "LoseLeague$Fault") (rest := []) [0] [1, 2, 3, 4, 5] rfl rfl (by decide) (by decide) (by decide) hA hP hD hS (fun hP hD => zx_runV (As := [.int s1, .int (2 : Int32)]) (rest := []) 2 ⟨hx, hb, hml, hown, hts⟩ (metX8_need l htr D kk sg ad ra rm _ fr s1 (2 : Int32) _ _ h) (Or.inl ⟨rfl, rfl⟩) q285 rfl rfl ⟨(Nat.le_of_ble_eq_true rfl), (Nat.le_of_ble_eq_true rfl)⟩ q282 q284 qs2 q72 pdX8_need (zpf_V hK hN hh.2.2.2.1 hU hA hS hh.2.2.2.2.2 hrc hP hD) rfl rfl hl.1 rfl (lv_room (Nat.le_of_ble_eq_true rfl)) dX8_line_33 ⟨(Nat.le_of_ble_eq_true rfl), (Nat.le_of_ble_eq_true rfl)⟩) (fun _ u H locs h hP hD hS => ?_) (fun x u H locs h hP hD hS hc => ?_)
          rotate_left
          · obtain ⟨⟨a_2, b_3⟩, _⟩ := u
            try dsimp only at h
            have hP : va_P D vwCl [zL rm rt rx flm, zA (kk 0) rt 20 twm, zA (kk 0) rx 20 fxm, zO ad f g, zA (kk 0) (ad 20) 160 tape, zRd ad ra rm fr, zF x a_2 b_3] H := hP
            have hD : va_D A [zL rm rt rx flm, zA (kk 0) rt 20 twm, zA (kk 0) rx 20 fxm, zO ad f g, zA (kk 0) (ad 20) 160 tape, zRd ad ra rm fr, zF x a_2 b_3] := hD
            refine WT.widen (k := 12) (n := 96) (Nat.le_of_ble_eq_true rfl) (Nat.le_of_ble_eq_true rfl) ?_
            exact zx_thr hlk (hout _) hP hD hS ((a_2, b_3), (fr, flm, twm, fxm)) [5, 0, 1, 2, 3, 4, 6] rfl (by decide) hc h
          try dsimp only at h
          have hP : va_P D vwCl [zL rm rt rx flm, zA (kk 0) rt 20 twm, zA (kk 0) rx 20 fxm, zO ad f g, zA (kk 0) (ad 20) 160 tape, zRd ad ra rm fr] H := hP
          have hD : va_D A [zL rm rt rx flm, zA (kk 0) rt 20 twm, zA (kk 0) rx 20 fxm, zO ad f g, zA (kk 0) (ad 20) 160 tape, zRd ad ra rm fr] := hD
          refine W.eq (g2 := F0 m 36 ls []) rfl ?_
          refine lv_aload_n hx hb dX8_line_36 rfl (lv_at hl 1 rfl) ?_
          refine lv_iload_n hx hb dX8_line_37 rfl (lv_at hl 0 rfl) ?_
          refine lv_iconst (v := (4 : Int32)) hx hb dX8_line_38 (by decide) ?_
          have cut_78 : ∀ (fr : Nat → Int32) (flm : Nat → Int32) (twm : Nat → Int32) (fxm : Nat → Int32) (x1 : Int32) (s1 : Int32), wpX8_line_78 tape Q QT (wpX8_line_2 tape Q QT  nl2) fr flm twm fxm x1 s1 → ∀ (H : Heap) (locs : List Loc), va_P D vwCl [zRd ad ra rm fr, zL rm rt rx flm, zA (kk 0) rt 20 twm, zA (kk 0) rx 20 fxm, zO ad f g, zA (kk 0) (ad 20) 160 tape] H → va_D A [zRd ad ra rm fr, zL rm rt rx flm, zA (kk 0) rt 20 twm, zA (kk 0) rx 20 fxm, zO ad f g, zA (kk 0) (ad 20) 160 tape] → va_S A s.heap H locs → ∀ ls : Array Slot, lv_has ls 2 [(1, .int x1), (0, .ref ra)] → W p l e { frames := 7, cells := 12, slots := 96, locals := 177 } s m ([.ref ra] : List Value).toArray below meth c H locs 1 8 (MT below (zQX (fun _ : Unit => none) (fun (_ : Unit) (u : (Nat → Int32) × (Nat → Int32) × (Nat → Int32) × (Nat → Int32)) => Q u.1 u.2.1 u.2.2.1 u.2.2.2) (zB D A (fun u : (Nat → Int32) × (Nat → Int32) × (Nat → Int32) × (Nat → Int32) => [zRd ad ra rm u.1, zL rm rt rx u.2.1, zA (kk 0) rt 20 u.2.2.1, zA (kk 0) rx 20 u.2.2.2, zO ad f g, zA (kk 0) (ad 20) 160 tape])) (fun (u : (Int32 × Int32) × ((Nat → Int32) × (Nat → Int32) × (Nat → Int32) × (Nat → Int32))) => QT u.1.1 u.1.2 u.2.1 u.2.2.1 u.2.2.2.1 u.2.2.2.2) (zBT D A (fun (x : Nat) (u : (Int32 × Int32) × ((Nat → Int32) × (Nat → Int32) × (Nat → Int32) × (Nat → Int32))) => [zRd ad ra rm u.2.1, zL rm rt rx u.2.2.1, zA (kk 0) rt 20 u.2.2.2.1, zA (kk 0) rx 20 u.2.2.2.2, zO ad f g, zA (kk 0) (ad 20) 160 tape, zF x u.1.1 u.1.2]) (fun _ => "LoseLeague$Fault")) A) ([.ref ra] : List Value).toArray s 12 96 A) (F0 m 78 ls [.int s1, .ref ra]) := by
            intro fr flm twm fxm x1 s1 h H locs hP hD hS ls hl
            unfold wpX8_line_78 at h
            refine lv_iconst (v := (5 : Int32)) hx hb dX8_line_78 (by decide) ?_
            have hrc := va_recv hK hP (ci := 8) (q0 := 0) rfl rfl
            refine zx_c (wc := [zRd ad ra rm fr]) (wr := [zL rm rt rx flm, zA (kk 0) rt 20 twm, zA (kk 0) rx 20 fxm, zO ad f g, zA (kk 0) (ad 20) 160 tape]) (w1 := (fun u : Unit => [zRd ad ra rm fr])) (wT := (fun (x : Nat) (u : (Int32 × Int32) × (Unit)) => [zRd ad ra rm fr, zF x u.1.1 u.1.2])) (CX := fun _ => "LoseLeague$Fault") (rest := []) [0] [1, 2, 3, 4, 5] rfl rfl (by decide) (by decide) (by decide) hA hP hD hS (fun hP hD => zx_runV (As := [.int s1, .int (5 : Int32)]) (rest := []) 2 ⟨hx, hb, hml, hown, hts⟩ (metX8_need l htr D kk sg ad ra rm _ fr s1 (5 : Int32) _ _ h) (Or.inl ⟨rfl, rfl⟩) q285 rfl rfl ⟨(Nat.le_of_ble_eq_true rfl), (Nat.le_of_ble_eq_true rfl)⟩ q282 q284 qs2 q72 pdX8_need (zpf_V hK hN hh.2.2.2.1 hU hA hS hh.2.2.2.2.2 hrc hP hD) rfl rfl hl.1 rfl (lv_room (Nat.le_of_ble_eq_true rfl)) dX8_line_79 ⟨(Nat.le_of_ble_eq_true rfl), (Nat.le_of_ble_eq_true rfl)⟩) (fun _ u H locs h hP hD hS => ?_) (fun x u H locs h hP hD hS hc => ?_)
            rotate_left
            · obtain ⟨⟨a_5, b_6⟩, _⟩ := u
              try dsimp only at h
              have hP : va_P D vwCl [zL rm rt rx flm, zA (kk 0) rt 20 twm, zA (kk 0) rx 20 fxm, zO ad f g, zA (kk 0) (ad 20) 160 tape, zRd ad ra rm fr, zF x a_5 b_6] H := hP
              have hD : va_D A [zL rm rt rx flm, zA (kk 0) rt 20 twm, zA (kk 0) rx 20 fxm, zO ad f g, zA (kk 0) (ad 20) 160 tape, zRd ad ra rm fr, zF x a_5 b_6] := hD
              refine WT.widen (k := 12) (n := 96) (Nat.le_of_ble_eq_true rfl) (Nat.le_of_ble_eq_true rfl) ?_
              exact zx_thr hlk (hout _) hP hD hS ((a_5, b_6), (fr, flm, twm, fxm)) [5, 0, 1, 2, 3, 4, 6] rfl (by decide) hc h
            try dsimp only at h
            have hP : va_P D vwCl [zL rm rt rx flm, zA (kk 0) rt 20 twm, zA (kk 0) rx 20 fxm, zO ad f g, zA (kk 0) (ad 20) 160 tape, zRd ad ra rm fr] H := hP
            have hD : va_D A [zL rm rt rx flm, zA (kk 0) rt 20 twm, zA (kk 0) rx 20 fxm, zO ad f g, zA (kk 0) (ad 20) 160 tape, zRd ad ra rm fr] := hD
            refine W.eq (g2 := F0 m 82 ls []) rfl ?_
            refine lv_aload_n hx hb dX8_line_82 rfl (lv_at hl 1 rfl) ?_
            have hrc := va_recv hK hP (ci := 8) (q0 := 5) rfl rfl
            refine zx_c (wc := [zRd ad ra rm fr, zO ad f g, zA (kk 0) (ad 20) 160 tape]) (wr := [zL rm rt rx flm, zA (kk 0) rt 20 twm, zA (kk 0) rx 20 fxm]) (w1 := (fun u : (Nat → Int32) => [zRd ad ra rm u, zO ad f g, zA (kk 0) (ad 20) 160 tape])) (wT := (fun (x : Nat) (u : (Int32 × Int32) × ((Nat → Int32))) => [zRd ad ra rm u.2, zO ad f g, zA (kk 0) (ad 20) 160 tape, zF x u.1.1 u.1.2])) (CX := fun _ => "LoseLeague$Fault") (rest := []) [5, 3, 4] [0, 1, 2] rfl rfl (by decide) (by decide) (by decide) hA hP hD hS (fun hP hD => zx_runV (As := []) (rest := []) 0 ⟨hx, hb, hml, hown, hts⟩ (metX8_next l htr D kk sg ad ra rm _ fr f g tape _ _ h) (Or.inl ⟨rfl, rfl⟩) q277 rfl rfl ⟨(Nat.le_of_ble_eq_true rfl), (Nat.le_of_ble_eq_true rfl)⟩ q274 q276 qs0 q72 pdX8_next (zpf_V hK hN hh.2.2.2.1 hU hA hS hh.2.2.2.2.2 hrc hP hD) rfl rfl hl.1 rfl (lv_room (Nat.le_of_ble_eq_true rfl)) dX8_line_83 ⟨(Nat.le_of_ble_eq_true rfl), (Nat.le_of_ble_eq_true rfl)⟩) (fun _ u H locs h hP hD hS => ?_) (fun x u H locs h hP hD hS hc => ?_)
            rotate_left
            · obtain ⟨⟨a_9, b_10⟩, fr_8⟩ := u
              try dsimp only at h
              have hP : va_P D vwCl [zL rm rt rx flm, zA (kk 0) rt 20 twm, zA (kk 0) rx 20 fxm, zRd ad ra rm fr_8, zO ad f g, zA (kk 0) (ad 20) 160 tape, zF x a_9 b_10] H := hP
              have hD : va_D A [zL rm rt rx flm, zA (kk 0) rt 20 twm, zA (kk 0) rx 20 fxm, zRd ad ra rm fr_8, zO ad f g, zA (kk 0) (ad 20) 160 tape, zF x a_9 b_10] := hD
              refine WT.widen (k := 12) (n := 96) (Nat.le_of_ble_eq_true rfl) (Nat.le_of_ble_eq_true rfl) ?_
              exact zx_thr hlk (hout _) hP hD hS ((a_9, b_10), (fr_8, flm, twm, fxm)) [3, 0, 1, 2, 4, 5, 6] rfl (by decide) hc h
            obtain ⟨fr_8, rfl⟩ : ∃ z, z = u := ⟨_, rfl⟩
            try dsimp only at h
            have hP : va_P D vwCl [zL rm rt rx flm, zA (kk 0) rt 20 twm, zA (kk 0) rx 20 fxm, zRd ad ra rm fr_8, zO ad f g, zA (kk 0) (ad 20) 160 tape] H := hP
            have hD : va_D A [zL rm rt rx flm, zA (kk 0) rt 20 twm, zA (kk 0) rx 20 fxm, zRd ad ra rm fr_8, zO ad f g, zA (kk 0) (ad 20) 160 tape] := hD
            refine W.eq (g2 := F0 m 86 ls []) rfl ?_
            refine lv_iload_n hx hb dX8_line_86 rfl (lv_at hl 0 rfl) ?_
            refine lv_iconst (v := (4 : Int32)) hx hb dX8_line_87 (by decide) ?_
            have cut_116 : ∀ (fr : Nat → Int32) (flm : Nat → Int32) (twm : Nat → Int32) (fxm : Nat → Int32), wpX8_line_116 tape Q QT (wpX8_line_2 tape Q QT  nl2) fr flm twm fxm → ∀ (H : Heap) (locs : List Loc), va_P D vwCl [zRd ad ra rm fr, zL rm rt rx flm, zA (kk 0) rt 20 twm, zA (kk 0) rx 20 fxm, zO ad f g, zA (kk 0) (ad 20) 160 tape] H → va_D A [zRd ad ra rm fr, zL rm rt rx flm, zA (kk 0) rt 20 twm, zA (kk 0) rx 20 fxm, zO ad f g, zA (kk 0) (ad 20) 160 tape] → va_S A s.heap H locs → ∀ ls : Array Slot, lv_has ls 2 [(0, .ref ra)] → W p l e { frames := 7, cells := 12, slots := 96, locals := 177 } s m ([.ref ra] : List Value).toArray below meth c H locs 10 80 (MT below (zQX (fun _ : Unit => none) (fun (_ : Unit) (u : (Nat → Int32) × (Nat → Int32) × (Nat → Int32) × (Nat → Int32)) => Q u.1 u.2.1 u.2.2.1 u.2.2.2) (zB D A (fun u : (Nat → Int32) × (Nat → Int32) × (Nat → Int32) × (Nat → Int32) => [zRd ad ra rm u.1, zL rm rt rx u.2.1, zA (kk 0) rt 20 u.2.2.1, zA (kk 0) rx 20 u.2.2.2, zO ad f g, zA (kk 0) (ad 20) 160 tape])) (fun (u : (Int32 × Int32) × ((Nat → Int32) × (Nat → Int32) × (Nat → Int32) × (Nat → Int32))) => QT u.1.1 u.1.2 u.2.1 u.2.2.1 u.2.2.2.1 u.2.2.2.2) (zBT D A (fun (x : Nat) (u : (Int32 × Int32) × ((Nat → Int32) × (Nat → Int32) × (Nat → Int32) × (Nat → Int32))) => [zRd ad ra rm u.2.1, zL rm rt rx u.2.2.1, zA (kk 0) rt 20 u.2.2.2.1, zA (kk 0) rx 20 u.2.2.2.2, zO ad f g, zA (kk 0) (ad 20) 160 tape, zF x u.1.1 u.1.2]) (fun _ => "LoseLeague$Fault")) A) ([.ref ra] : List Value).toArray s 12 96 A) (F0 m 116 ls []) := by
              intro fr flm twm fxm h H locs hP hD hS ls hl
              unfold wpX8_line_116 at h
              refine lv_aload_n hx hb dX8_line_116 rfl (lv_at hl 0 rfl) ?_
              refine lv_aload_n hx hb dX8_line_117 rfl (lv_at hl 0 rfl) ?_
              refine va_get (D := D) (ci := 8) (v := .int (fr 5)) (C := RX8) (T := TX8) (N := 8) hx hb hts in_X8 hown hK hP 0 rfl rfl 5 (Nat.le_of_ble_eq_true rfl) (hts _ q376) (fun _ h9 => h9) rfl dX8_line_118 ?_
              refine lv_iconst (v := (3 : Int32)) hx hb dX8_line_121 (by decide) ?_
              have cut_130 : ∀ (fr : Nat → Int32) (flm : Nat → Int32) (twm : Nat → Int32) (fxm : Nat → Int32) (s1 : Int32), wpX8_line_130 tape Q QT (wpX8_line_2 tape Q QT  nl2) fr flm twm fxm s1 → ∀ (H : Heap) (locs : List Loc), va_P D vwCl [zRd ad ra rm fr, zL rm rt rx flm, zA (kk 0) rt 20 twm, zA (kk 0) rx 20 fxm, zO ad f g, zA (kk 0) (ad 20) 160 tape] H → va_D A [zRd ad ra rm fr, zL rm rt rx flm, zA (kk 0) rt 20 twm, zA (kk 0) rx 20 fxm, zO ad f g, zA (kk 0) (ad 20) 160 tape] → va_S A s.heap H locs → ∀ ls : Array Slot, lv_has ls 2 [(0, .ref ra)] → W p l e { frames := 7, cells := 12, slots := 96, locals := 177 } s m ([.ref ra] : List Value).toArray below meth c H locs 10 80 (MT below (zQX (fun _ : Unit => none) (fun (_ : Unit) (u : (Nat → Int32) × (Nat → Int32) × (Nat → Int32) × (Nat → Int32)) => Q u.1 u.2.1 u.2.2.1 u.2.2.2) (zB D A (fun u : (Nat → Int32) × (Nat → Int32) × (Nat → Int32) × (Nat → Int32) => [zRd ad ra rm u.1, zL rm rt rx u.2.1, zA (kk 0) rt 20 u.2.2.1, zA (kk 0) rx 20 u.2.2.2, zO ad f g, zA (kk 0) (ad 20) 160 tape])) (fun (u : (Int32 × Int32) × ((Nat → Int32) × (Nat → Int32) × (Nat → Int32) × (Nat → Int32))) => QT u.1.1 u.1.2 u.2.1 u.2.2.1 u.2.2.2.1 u.2.2.2.2) (zBT D A (fun (x : Nat) (u : (Int32 × Int32) × ((Nat → Int32) × (Nat → Int32) × (Nat → Int32) × (Nat → Int32))) => [zRd ad ra rm u.2.1, zL rm rt rx u.2.2.1, zA (kk 0) rt 20 u.2.2.2.1, zA (kk 0) rx 20 u.2.2.2.2, zO ad f g, zA (kk 0) (ad 20) 160 tape, zF x u.1.1 u.1.2]) (fun _ => "LoseLeague$Fault")) A) ([.ref ra] : List Value).toArray s 12 96 A) (F0 m 130 ls [.int s1, .ref ra]) := by
                intro fr flm twm fxm s1 h H locs hP hD hS ls hl
                unfold wpX8_line_130 at h
                refine lv_iconst (v := (2 : Int32)) hx hb dX8_line_130 (by decide) ?_
                have hrc := va_recv hK hP (ci := 8) (q0 := 0) rfl rfl
                refine zx_c (wc := [zRd ad ra rm fr]) (wr := [zL rm rt rx flm, zA (kk 0) rt 20 twm, zA (kk 0) rx 20 fxm, zO ad f g, zA (kk 0) (ad 20) 160 tape]) (w1 := (fun u : Unit => [zRd ad ra rm fr])) (wT := (fun (x : Nat) (u : (Int32 × Int32) × (Unit)) => [zRd ad ra rm fr, zF x u.1.1 u.1.2])) (CX := fun _ => "LoseLeague$Fault") (rest := []) [0] [1, 2, 3, 4, 5] rfl rfl (by decide) (by decide) (by decide) hA hP hD hS (fun hP hD => zx_runV (As := [.int s1, .int (2 : Int32)]) (rest := []) 2 ⟨hx, hb, hml, hown, hts⟩ (metX8_need l htr D kk sg ad ra rm _ fr s1 (2 : Int32) _ _ h) (Or.inl ⟨rfl, rfl⟩) q285 rfl rfl ⟨(Nat.le_of_ble_eq_true rfl), (Nat.le_of_ble_eq_true rfl)⟩ q282 q284 qs2 q72 pdX8_need (zpf_V hK hN hh.2.2.2.1 hU hA hS hh.2.2.2.2.2 hrc hP hD) rfl rfl hl.1 rfl (lv_room (Nat.le_of_ble_eq_true rfl)) dX8_line_131 ⟨(Nat.le_of_ble_eq_true rfl), (Nat.le_of_ble_eq_true rfl)⟩) (fun _ u H locs h hP hD hS => ?_) (fun x u H locs h hP hD hS hc => ?_)
                rotate_left
                · obtain ⟨⟨a_12, b_13⟩, _⟩ := u
                  try dsimp only at h
                  have hP : va_P D vwCl [zL rm rt rx flm, zA (kk 0) rt 20 twm, zA (kk 0) rx 20 fxm, zO ad f g, zA (kk 0) (ad 20) 160 tape, zRd ad ra rm fr, zF x a_12 b_13] H := hP
                  have hD : va_D A [zL rm rt rx flm, zA (kk 0) rt 20 twm, zA (kk 0) rx 20 fxm, zO ad f g, zA (kk 0) (ad 20) 160 tape, zRd ad ra rm fr, zF x a_12 b_13] := hD
                  refine WT.widen (k := 12) (n := 96) (Nat.le_of_ble_eq_true rfl) (Nat.le_of_ble_eq_true rfl) ?_
                  exact zx_thr hlk (hout _) hP hD hS ((a_12, b_13), (fr, flm, twm, fxm)) [5, 0, 1, 2, 3, 4, 6] rfl (by decide) hc h
                try dsimp only at h
                have hP : va_P D vwCl [zL rm rt rx flm, zA (kk 0) rt 20 twm, zA (kk 0) rx 20 fxm, zO ad f g, zA (kk 0) (ad 20) 160 tape, zRd ad ra rm fr] H := hP
                have hD : va_D A [zL rm rt rx flm, zA (kk 0) rt 20 twm, zA (kk 0) rx 20 fxm, zO ad f g, zA (kk 0) (ad 20) 160 tape, zRd ad ra rm fr] := hD
                refine W.eq (g2 := F0 m 134 ls []) rfl ?_
                refine lv_aload_n hx hb dX8_line_134 rfl (lv_at hl 0 rfl) ?_
                have hrc := va_recv hK hP (ci := 8) (q0 := 5) rfl rfl
                refine zx_c (wc := [zRd ad ra rm fr, zO ad f g, zA (kk 0) (ad 20) 160 tape]) (wr := [zL rm rt rx flm, zA (kk 0) rt 20 twm, zA (kk 0) rx 20 fxm]) (w1 := (fun u : (Nat → Int32) => [zRd ad ra rm u, zO ad f g, zA (kk 0) (ad 20) 160 tape])) (wT := (fun (x : Nat) (u : (Int32 × Int32) × ((Nat → Int32))) => [zRd ad ra rm u.2, zO ad f g, zA (kk 0) (ad 20) 160 tape, zF x u.1.1 u.1.2])) (CX := fun _ => "LoseLeague$Fault") (rest := []) [5, 3, 4] [0, 1, 2] rfl rfl (by decide) (by decide) (by decide) hA hP hD hS (fun hP hD => zx_runV (As := []) (rest := []) 0 ⟨hx, hb, hml, hown, hts⟩ (metX8_next l htr D kk sg ad ra rm _ fr f g tape _ _ h) (Or.inl ⟨rfl, rfl⟩) q277 rfl rfl ⟨(Nat.le_of_ble_eq_true rfl), (Nat.le_of_ble_eq_true rfl)⟩ q274 q276 qs0 q72 pdX8_next (zpf_V hK hN hh.2.2.2.1 hU hA hS hh.2.2.2.2.2 hrc hP hD) rfl rfl hl.1 rfl (lv_room (Nat.le_of_ble_eq_true rfl)) dX8_line_135 ⟨(Nat.le_of_ble_eq_true rfl), (Nat.le_of_ble_eq_true rfl)⟩) (fun _ u H locs h hP hD hS => ?_) (fun x u H locs h hP hD hS hc => ?_)
                rotate_left
                · obtain ⟨⟨a_16, b_17⟩, fr_15⟩ := u
                  try dsimp only at h
                  have hP : va_P D vwCl [zL rm rt rx flm, zA (kk 0) rt 20 twm, zA (kk 0) rx 20 fxm, zRd ad ra rm fr_15, zO ad f g, zA (kk 0) (ad 20) 160 tape, zF x a_16 b_17] H := hP
                  have hD : va_D A [zL rm rt rx flm, zA (kk 0) rt 20 twm, zA (kk 0) rx 20 fxm, zRd ad ra rm fr_15, zO ad f g, zA (kk 0) (ad 20) 160 tape, zF x a_16 b_17] := hD
                  exact zx_thr hlk (hout _) hP hD hS ((a_16, b_17), (fr_15, flm, twm, fxm)) [3, 0, 1, 2, 4, 5, 6] rfl (by decide) hc h
                obtain ⟨fr_15, rfl⟩ : ∃ z, z = u := ⟨_, rfl⟩
                try dsimp only at h
                have hP : va_P D vwCl [zL rm rt rx flm, zA (kk 0) rt 20 twm, zA (kk 0) rx 20 fxm, zRd ad ra rm fr_15, zO ad f g, zA (kk 0) (ad 20) 160 tape] H := hP
                have hD : va_D A [zL rm rt rx flm, zA (kk 0) rt 20 twm, zA (kk 0) rx 20 fxm, zRd ad ra rm fr_15, zO ad f g, zA (kk 0) (ad 20) 160 tape] := hD
                refine W.eq (g2 := F0 m 138 ls []) rfl ?_
                exact zx_v hx hb hr hlk hP hD hS (fr_15, flm, twm, fxm) [3, 0, 1, 2, 4, 5] rfl (by decide) dX8_line_138 h
              refine lv_icmp_ne (tgt := 129) hx hb dX8_line_122 (by decide) (fun c_18 => ?_) (fun c_18 => ?_)
              · have h := h.2 c_18
                refine lv_iconst (v := (0 : Int32)) hx hb dX8_line_129 (by decide) ?_
                exact cut_130 fr flm twm fxm (0 : Int32) h _ _ hP hD hS _ (lv_sub hl [0] rfl)
              · have h := h.1 c_18
                refine lv_iconst (v := (1 : Int32)) hx hb dX8_line_125 (by decide) ?_
                refine lv_goto (tgt := 130) hx hb dX8_line_126 (by decide) ?_
                exact cut_130 fr flm twm fxm (1 : Int32) h _ _ hP hD hS _ (lv_sub hl [0] rfl)
            refine lv_icmp_ne (tgt := 98) hx hb dX8_line_88 (by decide) (fun c_19 => ?_) (fun c_19 => ?_)
            · have h := h.2 c_19
              refine lv_aload_n hx hb dX8_line_98 rfl (lv_at hl 1 rfl) ?_
              refine va_get (D := D) (ci := 8) (v := .ref rm) (C := RX8) (T := TX8) (N := 8) hx hb hts in_X8 hown hK hP 3 rfl rfl 1 (Nat.le_of_ble_eq_true rfl) (hts _ q371) (fun _ h9 => h9) rfl dX8_line_99 ?_
              refine lv_iload_n hx hb dX8_line_102 rfl (lv_at hl 0 rfl) ?_
              refine lv_aload_n hx hb dX8_line_103 rfl (lv_at hl 1 rfl) ?_
              refine lv_bipush (v := (20 : Int32)) hx hb dX8_line_104 (by decide) ?_
              have hrc := va_recv hK hP (ci := 8) (q0 := 3) rfl rfl
              refine zx_c (wc := [zRd ad ra rm fr_8]) (wr := [zL rm rt rx flm, zA (kk 0) rt 20 twm, zA (kk 0) rx 20 fxm, zO ad f g, zA (kk 0) (ad 20) 160 tape]) (w1 := (fun u : Unit => [zRd ad ra rm fr_8])) (wT := (fun (x : Nat) (u : (Int32 × Int32) × (Unit)) => [zRd ad ra rm fr_8, zF x u.1.1 u.1.2])) (CX := fun _ => "LoseLeague$Fault") (rest := [.int x1, .ref rm]) [3] [0, 1, 2, 4, 5] rfl rfl (by decide) (by decide) (by decide) hA hP hD hS (fun hP hD => zx_runV (As := [.int (20 : Int32)]) (rest := [.int x1, .ref rm]) 1 ⟨hx, hb, hml, hown, hts⟩ (metX8_looked l htr D kk sg ad ra rm _ fr_8 (20 : Int32) _ _ h) (Or.inl ⟨rfl, rfl⟩) q472 rfl rfl ⟨(Nat.le_of_ble_eq_true rfl), (Nat.le_of_ble_eq_true rfl)⟩ q469 q471 qs9 q72 pdX8_looked (zpf_V hK hN hh.2.2.2.1 hU hA hS hh.2.2.2.2.2 hrc hP hD) rfl rfl hl.1 rfl (lv_room (Nat.le_of_ble_eq_true rfl)) dX8_line_106 ⟨(Nat.le_of_ble_eq_true rfl), (Nat.le_of_ble_eq_true rfl)⟩) (fun r_20 u H locs h hP hD hS => ?_) (fun x u H locs h hP hD hS hc => ?_)
              rotate_left
              · obtain ⟨⟨a_21, b_22⟩, _⟩ := u
                try dsimp only at h
                have hP : va_P D vwCl [zL rm rt rx flm, zA (kk 0) rt 20 twm, zA (kk 0) rx 20 fxm, zO ad f g, zA (kk 0) (ad 20) 160 tape, zRd ad ra rm fr_8, zF x a_21 b_22] H := hP
                have hD : va_D A [zL rm rt rx flm, zA (kk 0) rt 20 twm, zA (kk 0) rx 20 fxm, zO ad f g, zA (kk 0) (ad 20) 160 tape, zRd ad ra rm fr_8, zF x a_21 b_22] := hD
                refine WT.widen (k := 12) (n := 96) (Nat.le_of_ble_eq_true rfl) (Nat.le_of_ble_eq_true rfl) ?_
                exact zx_thr hlk (hout _) hP hD hS ((a_21, b_22), (fr_8, flm, twm, fxm)) [5, 0, 1, 2, 3, 4, 6] rfl (by decide) hc h
              try dsimp only at h
              have hP : va_P D vwCl [zL rm rt rx flm, zA (kk 0) rt 20 twm, zA (kk 0) rx 20 fxm, zO ad f g, zA (kk 0) (ad 20) 160 tape, zRd ad ra rm fr_8] H := hP
              have hD : va_D A [zL rm rt rx flm, zA (kk 0) rt 20 twm, zA (kk 0) rx 20 fxm, zO ad f g, zA (kk 0) (ad 20) 160 tape, zRd ad ra rm fr_8] := hD
              refine W.eq (g2 := F0 m 109 ls [.int r_20, .int x1, .ref rm]) rfl ?_
              have hrc := va_recv hK hP (ci := 5) (q0 := 0) rfl rfl
              refine zc_v (wc := [zL rm rt rx flm, zA (kk 0) rt 20 twm, zA (kk 0) rx 20 fxm]) (wr := [zO ad f g, zA (kk 0) (ad 20) 160 tape, zRd ad ra rm fr_8]) (w1 := (fun u : (Nat → Int32) × (Nat → Int32) => [zL rm rt rx u.1, zA (kk 0) rt 20 u.2, zA (kk 0) rx 20 fxm])) (rest := []) [0, 1, 2] [3, 4, 5] rfl rfl (by decide) (by decide) (by decide) hA hP hD hS (fun hP hD => va_runV (As := [.int x1, .int r_20]) (rest := []) ⟨hx, hb, hml, hown, hts⟩ (metX5_joins l D kk rm rt rx _ flm twm fxm x1 r_20 _ h) (cwV 2 hts (lw_V q481 q482 q483 q69 q484) rfl rfl rfl pdX5_joins ⟨(Nat.le_of_ble_eq_true rfl), (Nat.le_of_ble_eq_true rfl)⟩) (zp_V hK hN hrc hP hD) rfl rfl hl.1 rfl (lv_room (Nat.le_of_ble_eq_true rfl)) dX8_line_109 ⟨(Nat.le_of_ble_eq_true rfl), (Nat.le_of_ble_eq_true rfl)⟩) (fun u H locs h hP hD hS => ?_)
              obtain ⟨flm_24, twm_25⟩ := u
              try dsimp only at h
              have hP : va_P D vwCl [zO ad f g, zA (kk 0) (ad 20) 160 tape, zRd ad ra rm fr_8, zL rm rt rx flm_24, zA (kk 0) rt 20 twm_25, zA (kk 0) rx 20 fxm] H := hP
              have hD : va_D A [zO ad f g, zA (kk 0) (ad 20) 160 tape, zRd ad ra rm fr_8, zL rm rt rx flm_24, zA (kk 0) rt 20 twm_25, zA (kk 0) rx 20 fxm] := hD
              refine lv_aload_n hx hb dX8_line_112 rfl (lv_at hl 1 rfl) ?_
              have hrc := va_recv hK hP (ci := 8) (q0 := 2) rfl rfl
              refine zx_c (wc := [zRd ad ra rm fr_8, zO ad f g, zA (kk 0) (ad 20) 160 tape]) (wr := [zL rm rt rx flm_24, zA (kk 0) rt 20 twm_25, zA (kk 0) rx 20 fxm]) (w1 := (fun u : (Nat → Int32) => [zRd ad ra rm u, zO ad f g, zA (kk 0) (ad 20) 160 tape])) (wT := (fun (x : Nat) (u : (Int32 × Int32) × ((Nat → Int32))) => [zRd ad ra rm u.2, zO ad f g, zA (kk 0) (ad 20) 160 tape, zF x u.1.1 u.1.2])) (CX := fun _ => "LoseLeague$Fault") (rest := []) [2, 0, 1] [3, 4, 5] rfl rfl (by decide) (by decide) (by decide) hA hP hD hS (fun hP hD => zx_runV (As := []) (rest := []) 0 ⟨hx, hb, hml, hown, hts⟩ (metX8_next l htr D kk sg ad ra rm _ fr_8 f g tape _ _ h) (Or.inl ⟨rfl, rfl⟩) q277 rfl rfl ⟨(Nat.le_of_ble_eq_true rfl), (Nat.le_of_ble_eq_true rfl)⟩ q274 q276 qs0 q72 pdX8_next (zpf_V hK hN hh.2.2.2.1 hU hA hS hh.2.2.2.2.2 hrc hP hD) rfl rfl hl.1 rfl (lv_room (Nat.le_of_ble_eq_true rfl)) dX8_line_113 ⟨(Nat.le_of_ble_eq_true rfl), (Nat.le_of_ble_eq_true rfl)⟩) (fun _ u H locs h hP hD hS => ?_) (fun x u H locs h hP hD hS hc => ?_)
              rotate_left
              · obtain ⟨⟨a_28, b_29⟩, fr_27⟩ := u
                try dsimp only at h
                have hP : va_P D vwCl [zL rm rt rx flm_24, zA (kk 0) rt 20 twm_25, zA (kk 0) rx 20 fxm, zRd ad ra rm fr_27, zO ad f g, zA (kk 0) (ad 20) 160 tape, zF x a_28 b_29] H := hP
                have hD : va_D A [zL rm rt rx flm_24, zA (kk 0) rt 20 twm_25, zA (kk 0) rx 20 fxm, zRd ad ra rm fr_27, zO ad f g, zA (kk 0) (ad 20) 160 tape, zF x a_28 b_29] := hD
                refine WT.widen (k := 12) (n := 96) (Nat.le_of_ble_eq_true rfl) (Nat.le_of_ble_eq_true rfl) ?_
                exact zx_thr hlk (hout _) hP hD hS ((a_28, b_29), (fr_27, flm_24, twm_25, fxm)) [3, 0, 1, 2, 4, 5, 6] rfl (by decide) hc h
              obtain ⟨fr_27, rfl⟩ : ∃ z, z = u := ⟨_, rfl⟩
              try dsimp only at h
              have hP : va_P D vwCl [zL rm rt rx flm_24, zA (kk 0) rt 20 twm_25, zA (kk 0) rx 20 fxm, zRd ad ra rm fr_27, zO ad f g, zA (kk 0) (ad 20) 160 tape] H := hP
              have hD : va_D A [zL rm rt rx flm_24, zA (kk 0) rt 20 twm_25, zA (kk 0) rx 20 fxm, zRd ad ra rm fr_27, zO ad f g, zA (kk 0) (ad 20) 160 tape] := hD
              refine W.eq (g2 := F0 m 116 ls []) rfl ?_
              refine W.widen (k := 10) (n := 80) (Nat.le_of_ble_eq_true rfl) (Nat.le_of_ble_eq_true rfl) ?_
              exact cut_116 fr_27 flm_24 twm_25 fxm h _ _ (hP.sub [3, 0, 1, 2, 4, 5] rfl) (hD.sub [3, 0, 1, 2, 4, 5] (by decide) rfl) hS _ (lv_sub hl [1] rfl)
            · have h := h.1 c_19
              refine lv_aload_n hx hb dX8_line_91 rfl (lv_at hl 1 rfl) ?_
              have hrc := va_recv hK hP (ci := 8) (q0 := 3) rfl rfl
              refine zx_c (wc := [zRd ad ra rm fr_8, zL rm rt rx flm, zA (kk 0) rt 20 twm, zA (kk 0) rx 20 fxm, zO ad f g, zA (kk 0) (ad 20) 160 tape]) (wr := []) (w1 := (fun u : (Nat → Int32) × (Nat → Int32) × (Nat → Int32) => [zRd ad ra rm u.1, zL rm rt rx u.2.1, zA (kk 0) rt 20 twm, zA (kk 0) rx 20 u.2.2, zO ad f g, zA (kk 0) (ad 20) 160 tape])) (wT := (fun (x : Nat) (u : (Int32 × Int32) × ((Nat → Int32) × (Nat → Int32) × (Nat → Int32))) => [zRd ad ra rm u.2.1, zL rm rt rx u.2.2.1, zA (kk 0) rt 20 twm, zA (kk 0) rx 20 u.2.2.2, zO ad f g, zA (kk 0) (ad 20) 160 tape, zF x u.1.1 u.1.2])) (CX := fun _ => "LoseLeague$Fault") (rest := []) [3, 0, 1, 2, 4, 5] [] rfl rfl (by decide) (by decide) (by decide) hA hP hD hS (fun hP hD => zx_runV (As := []) (rest := []) 0 ⟨hx, hb, hml, hown, hts⟩ (metX8_game l htr D kk sg ad ra rm rt rx _ fr_8 flm twm fxm f g tape _ _ h) (Or.inl ⟨rfl, rfl⟩) q468 rfl rfl ⟨(Nat.le_of_ble_eq_true rfl), (Nat.le_of_ble_eq_true rfl)⟩ q465 q467 qs8 q72 pdX8_game (zpf_V hK hN hh.2.2.2.1 hU hA hS hh.2.2.2.2.2 hrc hP hD) rfl rfl hl.1 rfl (lv_room (Nat.le_of_ble_eq_true rfl)) dX8_line_92 ⟨(Nat.le_of_ble_eq_true rfl), (Nat.le_of_ble_eq_true rfl)⟩) (fun _ u H locs h hP hD hS => ?_) (fun x u H locs h hP hD hS hc => ?_)
              rotate_left
              · obtain ⟨⟨a_34, b_35⟩, fr_31, flm_32, fxm_33⟩ := u
                try dsimp only at h
                have hP : va_P D vwCl [zRd ad ra rm fr_31, zL rm rt rx flm_32, zA (kk 0) rt 20 twm, zA (kk 0) rx 20 fxm_33, zO ad f g, zA (kk 0) (ad 20) 160 tape, zF x a_34 b_35] H := hP
                have hD : va_D A [zRd ad ra rm fr_31, zL rm rt rx flm_32, zA (kk 0) rt 20 twm, zA (kk 0) rx 20 fxm_33, zO ad f g, zA (kk 0) (ad 20) 160 tape, zF x a_34 b_35] := hD
                refine WT.widen (k := 12) (n := 96) (Nat.le_of_ble_eq_true rfl) (Nat.le_of_ble_eq_true rfl) ?_
                exact zx_thr hlk (hout _) hP hD hS ((a_34, b_35), (fr_31, flm_32, twm, fxm_33)) [0, 1, 2, 3, 4, 5, 6] rfl (by decide) hc h
              obtain ⟨fr_31, flm_32, fxm_33⟩ := u
              try dsimp only at h
              have hP : va_P D vwCl [zRd ad ra rm fr_31, zL rm rt rx flm_32, zA (kk 0) rt 20 twm, zA (kk 0) rx 20 fxm_33, zO ad f g, zA (kk 0) (ad 20) 160 tape] H := hP
              have hD : va_D A [zRd ad ra rm fr_31, zL rm rt rx flm_32, zA (kk 0) rt 20 twm, zA (kk 0) rx 20 fxm_33, zO ad f g, zA (kk 0) (ad 20) 160 tape] := hD
              refine W.eq (g2 := F0 m 95 ls []) rfl ?_
              refine lv_goto (tgt := 116) hx hb dX8_line_95 (by decide) ?_
              exact cut_116 fr_31 flm_32 twm fxm_33 h _ _ hP hD hS _ (lv_sub hl [1] rfl)
          refine lv_icmp_ne (tgt := 62) hx hb dX8_line_39 (by decide) (fun c_36 => ?_) (fun c_36 => ?_)
          · have h := h.2 c_36
            refine lv_aload_n hx hb dX8_line_62 rfl (lv_at hl 1 rfl) ?_
            refine va_get (D := D) (ci := 8) (v := .ref rm) (C := RX8) (T := TX8) (N := 8) hx hb hts in_X8 hown hK hP 5 rfl rfl 1 (Nat.le_of_ble_eq_true rfl) (hts _ q371) (fun _ h9 => h9) rfl dX8_line_63 ?_
            refine va_getN (D := D) (ci := 5) (v := .int (flm 0)) (C := RX5) (T := TX5) (N := 6) hx hb hts in_X5 hown hK hP 0 rfl rfl 0 (Nat.le_of_ble_eq_true rfl) (zN_f hN 0 rfl rfl) (fun _ h9 => h9) rfl dX8_line_66 ?_
            refine lv_iconst (v := (5 : Int32)) hx hb dX8_line_69 (by decide) ?_
            refine lv_icmp_ge (tgt := 77) hx hb dX8_line_70 (by decide) (fun c_37 => ?_) (fun c_37 => ?_)
            · have h := h.1 c_37
              refine lv_iconst (v := (0 : Int32)) hx hb dX8_line_77 (by decide) ?_
              exact cut_78 fr flm twm fxm x1 (0 : Int32) h _ _ (hP.sub [5, 0, 1, 2, 3, 4] rfl) (hD.sub [5, 0, 1, 2, 3, 4] (by decide) rfl) hS _ (lv_sub hl [0, 1] rfl)
            · have h := h.2 c_37
              refine lv_iconst (v := (1 : Int32)) hx hb dX8_line_73 (by decide) ?_
              refine lv_goto (tgt := 78) hx hb dX8_line_74 (by decide) ?_
              exact cut_78 fr flm twm fxm x1 (1 : Int32) h _ _ (hP.sub [5, 0, 1, 2, 3, 4] rfl) (hD.sub [5, 0, 1, 2, 3, 4] (by decide) rfl) hS _ (lv_sub hl [0, 1] rfl)
          · have h := h.1 c_36
            refine lv_aload_n hx hb dX8_line_42 rfl (lv_at hl 1 rfl) ?_
            refine va_get (D := D) (ci := 8) (v := .ref rm) (C := RX8) (T := TX8) (N := 8) hx hb hts in_X8 hown hK hP 5 rfl rfl 1 (Nat.le_of_ble_eq_true rfl) (hts _ q371) (fun _ h9 => h9) rfl dX8_line_43 ?_
            refine va_getN (D := D) (ci := 5) (v := .int (flm 2)) (C := RX5) (T := TX5) (N := 6) hx hb hts in_X5 hown hK hP 0 rfl rfl 2 (Nat.le_of_ble_eq_true rfl) (zN_f hN 3 rfl rfl) (fun _ h9 => h9) rfl dX8_line_46 ?_
            refine lv_bipush (v := (10 : Int32)) hx hb dX8_line_49 (by decide) ?_
            refine lv_icmp_ge (tgt := 58) hx hb dX8_line_51 (by decide) (fun c_38 => ?_) (fun c_38 => ?_)
            · have h := h.1 c_38
              refine lv_iconst (v := (0 : Int32)) hx hb dX8_line_58 (by decide) ?_
              refine lv_goto (tgt := 78) hx hb dX8_line_59 (by decide) ?_
              exact cut_78 fr flm twm fxm x1 (0 : Int32) h _ _ (hP.sub [5, 0, 1, 2, 3, 4] rfl) (hD.sub [5, 0, 1, 2, 3, 4] (by decide) rfl) hS _ (lv_sub hl [0, 1] rfl)
            · have h := h.2 c_38
              refine lv_iconst (v := (1 : Int32)) hx hb dX8_line_54 (by decide) ?_
              refine lv_goto (tgt := 78) hx hb dX8_line_55 (by decide) ?_
              exact cut_78 fr flm twm fxm x1 (1 : Int32) h _ _ (hP.sub [5, 0, 1, 2, 3, 4] rfl) (hD.sub [5, 0, 1, 2, 3, 4] (by decide) rfl) hS _ (lv_sub hl [0, 1] rfl)
        refine lv_icmp_gt (tgt := 31) hx hb dX8_line_24 (by decide) (fun c_39 => ?_) (fun c_39 => ?_)
        · have h := h.1 c_39
          refine lv_iconst (v := (0 : Int32)) hx hb dX8_line_31 (by decide) ?_
          exact cut_32 fr flm twm fxm x1 (0 : Int32) h _ _ hP hD hS _ (lv_sub hl [0, 1] rfl)
        · have h := h.2 c_39
          refine lv_iconst (v := (1 : Int32)) hx hb dX8_line_27 (by decide) ?_
          refine lv_goto (tgt := 32) hx hb dX8_line_28 (by decide) ?_
          exact cut_32 fr flm twm fxm x1 (1 : Int32) h _ _ hP hD hS _ (lv_sub hl [0, 1] rfl)
      refine lv_icmp_gt (tgt := 21) hx hb dX8_line_4 (by decide) (fun c_40 => ?_) (fun c_40 => ?_)
      · have h := h.1 c_40
        exact cut_21 fr flm twm fxm x1 h _ _ hP hD hS _ (lv_sub hl [0, 1] rfl)
      · have h := h.2 c_40
        refine lv_aload_n hx hb dX8_line_7 rfl (lv_at hl 1 rfl) ?_
        refine lv_iload_n hx hb dX8_line_8 rfl (lv_at hl 0 rfl) ?_
        have hrc := va_recv hK hP (ci := 8) (q0 := 0) rfl rfl
        refine zc_i (wc := [zRd ad ra rm fr, zO ad f g, zA (kk 0) (ad 20) 160 tape]) (wr := [zL rm rt rx flm, zA (kk 0) rt 20 twm, zA (kk 0) rx 20 fxm]) (w1 := (fun u : Unit => [zRd ad ra rm fr, zO ad f g, zA (kk 0) (ad 20) 160 tape])) (rest := []) [0, 4, 5] [1, 2, 3] rfl rfl (by decide) (by decide) (by decide) hA hP hD hS (fun hP hD => va_runV (As := [.int x1]) (rest := []) ⟨hx, hb, hml, hown, hts⟩ (metX8_is l htr D kk sg ad ra rm _ fr f g tape x1 _ h) (cwV 1 hts (lw_V q404 q406 qs6 q72 q407) rfl rfl rfl pdX8_is ⟨(Nat.le_of_ble_eq_true rfl), (Nat.le_of_ble_eq_true rfl)⟩) (zpf_V hK hN hh.2.2.2.1 hU hA hS hh.2.2.2.2.2 hrc hP hD) rfl rfl hl.1 rfl (lv_room (Nat.le_of_ble_eq_true rfl)) dX8_line_9 ⟨(Nat.le_of_ble_eq_true rfl), (Nat.le_of_ble_eq_true rfl)⟩) (fun r_41 u H locs h hP hD hS => ?_)
        try dsimp only at h
        have hP : va_P D vwCl [zL rm rt rx flm, zA (kk 0) rt 20 twm, zA (kk 0) rx 20 fxm, zRd ad ra rm fr, zO ad f g, zA (kk 0) (ad 20) 160 tape] H := hP
        have hD : va_D A [zL rm rt rx flm, zA (kk 0) rt 20 twm, zA (kk 0) rx 20 fxm, zRd ad ra rm fr, zO ad f g, zA (kk 0) (ad 20) 160 tape] := hD
        refine lv_if_ne (tgt := 21) hx hb dX8_line_12 (by decide) (fun c_42 => ?_) (fun c_42 => ?_)
        · have h := h.2 c_42
          exact cut_21 fr flm twm fxm x1 h _ _ (hP.sub [3, 0, 1, 2, 4, 5] rfl) (hD.sub [3, 0, 1, 2, 4, 5] (by decide) rfl) hS _ (lv_sub hl [0, 1] rfl)
        · have h := h.1 c_42
          refine lv_iinc (v := (x1 + 1)) (lv' := [(1, .int (x1 + 1)), (0, .ref ra)]) hx hb dX8_line_15 hl (k := 0) rfl rfl (by decide) rfl (fun ls hl => ?_)
          refine lv_goto (tgt := 2) hx hb dX8_line_18 (by decide) ?_
          exact ih_2 fr flm twm fxm (x1 + 1) h _ _ (hP.sub [3, 0, 1, 2, 4, 5] rfl) (hD.sub [3, 0, 1, 2, 4, 5] (by decide) rfl) hS _ (lv_sub hl [0, 1] rfl)
  refine lv_istore_n (lv' := [(1, .int (0 : Int32)), (0, .ref ra)]) hx hb dX8_line_1 rfl hl (by decide) rfl (fun ls hl => ?_)
  obtain ⟨n_2, h⟩ := h
  exact cut_2 n_2 fr flm twm fxm (0 : Int32) h _ _ hP hD hS _ (lv_sub hl [0, 1] rfl)
