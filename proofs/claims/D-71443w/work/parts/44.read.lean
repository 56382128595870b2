theorem pdX0_takenOf : yX0_takenOf.cls = "LoseLeague" ∧ yX0_takenOf.cls ≠ "java/lang/invoke/MethodHandle" ∧ yX0_takenOf.cls ≠ "java/lang/invoke/VarHandle" ∧ (parseMethodDescriptor yX0_takenOf.desc).map (fun d => d.parameters.length) = some 3 := by decide +kernel
theorem peX0_takenOf : yX0_takenOf.name ≠ "<init>" ∧ (parseMethodDescriptor yX0_takenOf.desc).map (fun d => d.parameters.length) = some 3 := by decide +kernel
theorem pdX0_sheet : yX0_sheet.cls = "LoseLeague" ∧ yX0_sheet.cls ≠ "java/lang/invoke/MethodHandle" ∧ yX0_sheet.cls ≠ "java/lang/invoke/VarHandle" ∧ (parseMethodDescriptor yX0_sheet.desc).map (fun d => d.parameters.length) = some 3 := by decide +kernel
theorem peX0_sheet : yX0_sheet.name ≠ "<init>" ∧ (parseMethodDescriptor yX0_sheet.desc).map (fun d => d.parameters.length) = some 3 := by decide +kernel
theorem pdX0_lay : yX0_lay.cls = "LoseLeague" ∧ yX0_lay.cls ≠ "java/lang/invoke/MethodHandle" ∧ yX0_lay.cls ≠ "java/lang/invoke/VarHandle" ∧ (parseMethodDescriptor yX0_lay.desc).map (fun d => d.parameters.length) = some 3 := by decide +kernel
theorem peX0_lay : yX0_lay.name ≠ "<init>" ∧ (parseMethodDescriptor yX0_lay.desc).map (fun d => d.parameters.length) = some 3 := by decide +kernel
theorem pdX0_read : yX0_read.cls = "LoseLeague" ∧ yX0_read.cls ≠ "java/lang/invoke/MethodHandle" ∧ yX0_read.cls ≠ "java/lang/invoke/VarHandle" ∧ (parseMethodDescriptor yX0_read.desc).map (fun d => d.parameters.length) = some 4 := by decide +kernel
theorem peX0_read : yX0_read.name ≠ "<init>" ∧ (parseMethodDescriptor yX0_read.desc).map (fun d => d.parameters.length) = some 4 := by decide +kernel
theorem pdX0_count : yX0_count.cls = "LoseLeague" ∧ yX0_count.cls ≠ "java/lang/invoke/MethodHandle" ∧ yX0_count.cls ≠ "java/lang/invoke/VarHandle" ∧ (parseMethodDescriptor yX0_count.desc).map (fun d => d.parameters.length) = some 1 := by decide +kernel
theorem peX0_count : yX0_count.name ≠ "<init>" ∧ (parseMethodDescriptor yX0_count.desc).map (fun d => d.parameters.length) = some 1 := by decide +kernel
theorem pdX0_text : yX0_text.cls = "LoseLeague" ∧ yX0_text.cls ≠ "java/lang/invoke/MethodHandle" ∧ yX0_text.cls ≠ "java/lang/invoke/VarHandle" ∧ (parseMethodDescriptor yX0_text.desc).map (fun d => d.parameters.length) = some 0 := by decide +kernel
theorem peX0_text : yX0_text.name ≠ "<init>" ∧ (parseMethodDescriptor yX0_text.desc).map (fun d => d.parameters.length) = some 0 := by decide +kernel
/-! SHEETS 5: read -/
set_option maxRecDepth 100000
theorem z_tab6 {T : List ExceptionTableEntry} {a1 a2 a3 a4 a5 a6 : Nat × Nat × Nat × Nat} (h : T.map (fun h => (h.startPc, h.endPc, h.handlerPc, h.catchType)) = [a1, a2, a3, a4, a5, a6]) : ∃ x1 x2 x3 x4 x5 x6, T = [x1, x2, x3, x4, x5, x6] ∧ (x1.startPc, x1.endPc, x1.handlerPc, x1.catchType) = a1 ∧ (x2.startPc, x2.endPc, x2.handlerPc, x2.catchType) = a2 ∧ (x3.startPc, x3.endPc, x3.handlerPc, x3.catchType) = a3 ∧ (x4.startPc, x4.endPc, x4.handlerPc, x4.catchType) = a4 ∧ (x5.startPc, x5.endPc, x5.handlerPc, x5.catchType) = a5 ∧ (x6.startPc, x6.endPc, x6.handlerPc, x6.catchType) = a6 := by
  match T, h with
  | [x1, x2, x3, x4, x5, x6], h =>
    simp only [List.map_cons, List.map_nil, List.cons.injEq, and_true] at h
    exact ⟨x1, x2, x3, x4, x5, x6, rfl, h.1, h.2.1, h.2.2.1, h.2.2.2.1, h.2.2.2.2.1, h.2.2.2.2.2⟩
theorem z_ncov {x : ExceptionTableEntry} {a b c d pc : Nat} (h : (x.startPc, x.endPc, x.handlerPc, x.catchType) = (a, b, c, d)) (h1 : pc < a) : covers x pc = false := by
  simp only [Prod.mk.injEq] at h
  have : ¬ a ≤ pc := by omega
  simp [covers, h.1, this]
theorem zGo_skipE {e : Env} {f : JFrame} {a : Addr} {s T : State} {vm : Vm} {x : ExceptionTableEntry} {t : List ExceptionTableEntry} {h : Handler} (hx : covers x f.pc = false) (k : ∃ vm', s.WarmedH vm' ∧ zGo e T vm f a t h vm') : ∃ vm', s.WarmedH vm' ∧ zGo e T vm f a (x :: t) h vm' := by
  obtain ⟨v, w, g⟩ := k
  exact ⟨v, w, zGo_skip hx g⟩
def zWhy : Nat → Int32
  | 0 => 1
  | 1 => 3
  | _ => 2
abbrev zRX (kk : Nat → ClassId) (ad : Nat → Nat) (g : Nat → Int64) (sr : Nat → Option Nat) (f fln twn fxn flt twt fxt : Nat → Int32) : va_W := [zO ad f g, zQ (kk 6) (ad 25) 4 (zSf ad), zS (ad 26) (sr 0), zS (ad 27) (sr 1), zS (ad 28) (sr 2), zS (ad 29) (sr 3), zL (ad 6) (ad 7) (ad 8) fln, zA (kk 0) (ad 7) 20 twn, zA (kk 0) (ad 8) 20 fxn, zL (ad 9) (ad 10) (ad 11) flt, zA (kk 0) (ad 10) 20 twt, zA (kk 0) (ad 11) 20 fxt]
abbrev zR7 : Type := (Nat → Int32) × (Nat → Int32) × (Nat → Int32) × (Nat → Int32) × (Nat → Int32) × (Nat → Int32) × (Nat → Int32)
def wpX0_readL (sr : Nat → Option Nat) (L : List Nat) (pk pn : Nat → Nat) (pc : Nat → Nat → Int32) (f twn flt twt fxt : Nat → Int32) (p1 p2 p3 p4 : Int32) (Q : Int32 → (Nat → Int32) → (Nat → Int32) → (Nat → Int32) → (Nat → Int32) → Prop) : Nat → (Nat → Int32) → (Nat → Int32) → Int32 → Prop
  | 0, _, _, _ => False
  | n + 1, fln, fxn, i => (p4 ≤ i → Q i (upd f 24 0) fln twn fxn) ∧ (¬ p4 ≤ i → wpX0_takenOf sr L pk pn pc p1 p2 (p3 + (2 : Int32) * i) (fun a => wpX0_takenOf sr L pk pn pc p1 p2 (p3 + (2 : Int32) * i + (1 : Int32)) (fun b => wpX0_book fln fxn a b (fun r fln1 fxn1 => (0 ≤ r → wpX0_readL sr L pk pn pc f twn flt twt fxt p1 p2 p3 p4 Q n fln1 fxn1 (i + 1)) ∧ (¬ 0 ≤ r → wpX5_as fln1 twn fxn1 flt twt fxt (fun x y z => Q ((-20 : Int32) - i) f x y z)))) (fun k => Q i (upd f 24 (zWhy k)) fln twn fxn)) (fun k => Q i (upd f 24 (zWhy k)) fln twn fxn))
def wpX0_read (sr : Nat → Option Nat) (L : List Nat) (pk pn : Nat → Nat) (pc : Nat → Nat → Int32) (f fln twn fxn flt twt fxt : Nat → Int32) (p1 p2 p3 p4 : Int32) (Q : Int32 → zR7 → Prop) : Prop :=
  wpX0_isSheet p1 p2 (fun r => (r = 0 → Q (-1 : Int32) (f, fln, twn, fxn, flt, twt, fxt)) ∧ (¬ r = 0 → wpX0_in p4.toInt64 (0 : Int64) (20 : Int64) (fun r2 => (r2 = 0 → Q (-1 : Int32) (f, fln, twn, fxn, flt, twt, fxt)) ∧ (¬ r2 = 0 → wpX5_as flt twt fxt fln twn fxn (fun x y z => ∃ n, n ≤ 21 ∧ wpX0_readL sr L pk pn pc f twn x y z p1 p2 p3 p4 (fun r f1 a b c => Q r (f1, a, b, c, x, y, z)) n fln fxn (0 : Int32))))))
set_option maxHeartbeats 8000000 in
theorem metX0_read (l : Launch) (htr : l.stackTraces = false) (D : va_G) (kk : Nat → ClassId) (ad : Nat → Nat) (sz : Nat) (g : Nat → Int64) (sr : Nat → Option Nat) (L : List Nat) (pk pn : Nat → Nat) (pc : Nat → Nat → Int32) (f fln twn fxn flt twt fxt : Nat → Int32) (p1 p2 p3 p4 : Int32) (Q : Int32 → zR7 → Prop) (h : wpX0_read sr L pk pn pc f fln twn fxn flt twt fxt p1 p2 p3 p4 Q) :
    MetX l yX0_read (Cond.codeWith yX0_read cX0_read 8 (some .int) [(40, 100, 110, 335), (101, 107, 110, 335), (40, 100, 118, 345), (101, 107, 118, 345), (40, 100, 126, 337), (101, 107, 126, 337)] :: lw_all) { frames := 9, cells := 126, slots := 9324, locals := 10400 } (va_Pc ([.ref (ad 0), .int p1, .int p2, .int p3, .int p4] : List Value) (zPX D kk (zRX kk ad g sr f fln twn fxn flt twt fxt ++ va_pl L (zPf kk pk pn pc)) sz))
      (zQX (fun r : Int32 => some (.int r)) (fun (r : Int32) (u : zR7) => Q r u) (zB D (va_A (zRX kk ad g sr f fln twn fxn flt twt fxt ++ va_pl L (zPf kk pk pn pc)) sz) (fun u : zR7 => (zRX kk ad g sr u.1 u.2.1 u.2.2.1 u.2.2.2.1 u.2.2.2.2.1 u.2.2.2.2.2.1 u.2.2.2.2.2.2 ++ va_pl L (zPf kk pk pn pc)))) (fun _ : Unit => False) (zBT D (va_A (zRX kk ad g sr f fln twn fxn flt twt fxt ++ va_pl L (zPf kk pk pn pc)) sz) (fun _ _ => []) (fun _ => "")) (va_A (zRX kk ad g sr f fln twn fxn flt twt fxt ++ va_pl L (zPf kk pk pn pc)) sz)) 126 9324 (va_A (zRX kk ad g sr f fln twn fxn flt twt fxt ++ va_pl L (zPf kk pk pn pc)) sz) := by
  refine zMetP (Qc := fun A => zQX (fun r : Int32 => some (.int r)) (fun (r : Int32) (u : zR7) => Q r u) (zB D A (fun u : zR7 => (zRX kk ad g sr u.1 u.2.1 u.2.2.1 u.2.2.2.1 u.2.2.2.2.1 u.2.2.2.2.2.1 u.2.2.2.2.2.2 ++ va_pl L (zPf kk pk pn pc)))) (fun _ : Unit => False) (zBT D A (fun _ _ => []) (fun _ => "")) A) htr (by decide) (Or.inr rfl) (Nat.le_of_ble_eq_true rfl) ?_
  intro p e s m below meth c A X hh htab had hP hD hS ls hl
  obtain ⟨hx, hb, hr, hml, hown, hts, hlk, hnm, hK, hN, hA⟩ := X
  have hown : s.vm.findClass "LoseLeague" = some m.cls := hown
  have hl : lv_has ls 8 [(0, .ref (ad 0)), (1, .int p1), (2, .int p2), (3, .int p3), (4, .int p4)] := hl
  obtain ⟨x1, x2, x3, x4, x5, x6, htl, t1, t2, t3, t4, t5, t6⟩ := z_tab6 htab
  have hpl : e.platform.magicAccessors = ({} : Platform).magicAccessors := by rw [had.platform]
  unfold wpX0_read at h
  have fin : ∀ (u : zR7) (v : Int32) (pcc : Nat) (H : Heap) (locs : List Loc) (cl sl : Nat) (ls : Array Slot), decode cX0_read pcc = .ok (.ireturn, 1) → cl ≤ 126 → sl ≤ 9324 → Q v u → va_P D vwCl (zRX kk ad g sr u.1 u.2.1 u.2.2.1 u.2.2.2.1 u.2.2.2.2.1 u.2.2.2.2.2.1 u.2.2.2.2.2.2 ++ va_pl L (zPf kk pk pn pc)) H → va_D A (zRX kk ad g sr u.1 u.2.1 u.2.2.1 u.2.2.2.1 u.2.2.2.2.1 u.2.2.2.2.2.1 u.2.2.2.2.2.2 ++ va_pl L (zPf kk pk pn pc)) → va_S A s.heap H locs →
      W p l e { frames := 9, cells := 126, slots := 9324, locals := 10400 } s m ([.ref (ad 0), .int p1, .int p2, .int p3, .int p4] : List Value).toArray below meth c H locs cl sl (MT below (zQX (fun r : Int32 => some (.int r)) (fun (r : Int32) (u : zR7) => Q r u) (zB D A (fun u : zR7 => (zRX kk ad g sr u.1 u.2.1 u.2.2.1 u.2.2.2.1 u.2.2.2.2.1 u.2.2.2.2.2.1 u.2.2.2.2.2.2 ++ va_pl L (zPf kk pk pn pc)))) (fun _ : Unit => False) (zBT D A (fun _ _ => []) (fun _ => "")) A) ([.ref (ad 0), .int p1, .int p2, .int p3, .int p4] : List Value).toArray s 126 9324 A) (F0 m pcc ls [.int v]) := by
    intro u v pcc H locs cl sl ls hd h1 h2 hq hP hD hS
    refine W.widen (k := 126) (n := 9324) h1 h2 ?_
    refine W.mono (MQ_MT (Qc := va_Qi (fun (r : Int32) (u : zR7) => Q r u) (zB D A (fun u : zR7 => (zRX kk ad g sr u.1 u.2.1 u.2.2.1 u.2.2.2.1 u.2.2.2.2.1 u.2.2.2.2.2.1 u.2.2.2.2.2.2 ++ va_pl L (zPf kk pk pn pc)))) A) fun o t hq => ?_) ?_
    · obtain ⟨⟨r, u, h1, h2, h3⟩, h4⟩ := hq
      exact ⟨Or.inl ⟨r, u, h1, h2, h3⟩, h4⟩
    · exact W.zret (v := v) hx hb hr rfl (fun t ht hW => ⟨⟨v, u, rfl, hq, by rw [ht]; exact hP, hD⟩, hS.F ht⟩) hS.2.2 hd
  have tor : ∀ (why i : Int32) (fln twn fxn flt twt fxt : Nat → Int32) (H : Heap) (locs : List Loc) (cl sl : Nat) (ls : Array Slot) (lv : List (Nat × Value)), lv_has ls 8 ([(5, .int why), (6, .int i), (0, .ref (ad 0))] ++ lv) → cl ≤ 126 → sl ≤ 9324 → Q i (upd f 24 why, fln, twn, fxn, flt, twt, fxt) → va_P D vwCl (zRX kk ad g sr f fln twn fxn flt twt fxt ++ va_pl L (zPf kk pk pn pc)) H → va_D A (zRX kk ad g sr f fln twn fxn flt twt fxt ++ va_pl L (zPf kk pk pn pc)) → va_S A s.heap H locs →
      W p l e { frames := 9, cells := 126, slots := 9324, locals := 10400 } s m ([.ref (ad 0), .int p1, .int p2, .int p3, .int p4] : List Value).toArray below meth c H locs cl sl (MT below (zQX (fun r : Int32 => some (.int r)) (fun (r : Int32) (u : zR7) => Q r u) (zB D A (fun u : zR7 => (zRX kk ad g sr u.1 u.2.1 u.2.2.1 u.2.2.2.1 u.2.2.2.2.1 u.2.2.2.2.2.1 u.2.2.2.2.2.2 ++ va_pl L (zPf kk pk pn pc)))) (fun _ : Unit => False) (zBT D A (fun _ _ => []) (fun _ => "")) A) ([.ref (ad 0), .int p1, .int p2, .int p3, .int p4] : List Value).toArray s 126 9324 A) (F0 m 131 ls []) := by
    intro why i fln twn fxn flt twt fxt H locs cl sl ls lv hl h1 h2 hq hP hD hS
    refine lv_aload_n hx hb dX0_read_131 rfl (lv_at hl 2 rfl) ?_
    refine lv_iload hx hb dX0_read_132 (lv_at hl 0 rfl) ?_
    refine va_put (D := D) (ci := 0) (v := .int why) (C := RX0) (T := TX0) (N := 25) hx hb hts in_X0 tyX0 tyX0_ok nmX0 hown hK hP hD hS 0 rfl rfl 24 (Nat.le_of_ble_eq_true rfl) (hts _ q197) (fun _ h9 => h9) rfl (tyX0_ok 24 (Nat.le_of_ble_eq_true rfl)) rfl rfl (Nat.le_of_ble_eq_true rfl) dX0_read_134 (fun H locs hP hD hS => ?_)
    have hP : va_P D vwCl (zRX kk ad g sr (upd f 24 why) fln twn fxn flt twt fxt ++ va_pl L (zPf kk pk pn pc)) H := hP
    have hD : va_D A (zRX kk ad g sr (upd f 24 why) fln twn fxn flt twt fxt ++ va_pl L (zPf kk pk pn pc)) := hD
    refine lv_iload hx hb dX0_read_137 (lv_at hl 1 rfl) ?_
    exact fin (upd f 24 why, fln, twn, fxn, flt, twt, fxt) _ _ _ _ _ _ _ dX0_read_139 h1 h2 hq hP hD hS
  have thr : ∀ (k : Nat) (i : Int32) (fln twn fxn flt twt fxt : Nat → Int32) (H1 : Heap) (x : Nat) (locs : List Loc) (cl sl pcc : Nat) (ls : Array Slot) (st : List Value) (lv : List (Nat × Value)), lv_has ls 8 ([(6, .int i), (5, .int (0 : Int32)), (0, .ref (ad 0)), (1, .int p1), (2, .int p2), (3, .int p3), (4, .int p4)] ++ lv) → 40 ≤ pcc → pcc < 100 → cl ≤ 126 → sl ≤ 9324 → Q i (upd f 24 (zWhy k), fln, twn, fxn, flt, twt, fxt) → va_P D vwCl (zRX kk ad g sr f fln twn fxn flt twt fxt ++ va_pl L (zPf kk pk pn pc)) H1 → va_D A (zRX kk ad g sr f fln twn fxn flt twt fxt ++ va_pl L (zPf kk pk pn pc)) → va_S A s.heap H1 locs → (∃ cell : Cell, H1[x]? = some cell ∧ cell.vm.isStatics = false ∧ s.vm.findClass (zTk k) = some cell.cls) →
      WT p l e { frames := 9, cells := 126, slots := 9324, locals := 10400 } s m ([.ref (ad 0), .int p1, .int p2, .int p3, .int p4] : List Value).toArray below meth c H1 locs cl sl (MT below (zQX (fun r : Int32 => some (.int r)) (fun (r : Int32) (u : zR7) => Q r u) (zB D A (fun u : zR7 => (zRX kk ad g sr u.1 u.2.1 u.2.2.1 u.2.2.2.1 u.2.2.2.2.1 u.2.2.2.2.2.1 u.2.2.2.2.2.2 ++ va_pl L (zPf kk pk pn pc)))) (fun _ : Unit => False) (zBT D A (fun _ _ => []) (fun _ => "")) A) ([.ref (ad 0), .int p1, .int p2, .int p3, .int p4] : List Value).toArray s 126 9324 A) (F0 m pcc ls st) x := by
    intro k i fln twn fxn flt twt fxt H1 x locs cl sl pcc ls st lv hl g1 g2 h1 h2 hq hP hD hS hc
    obtain ⟨cell, hc1, hc2, hc3⟩ := hc
    have e1 : x1.handlerPc = 110 ∧ x1.catchType = 335 := by simp only [Prod.mk.injEq] at t1; exact ⟨t1.2.2.1, t1.2.2.2⟩
    have e2 : x2.handlerPc = 110 ∧ x2.catchType = 335 := by simp only [Prod.mk.injEq] at t2; exact ⟨t2.2.2.1, t2.2.2.2⟩
    have e3 : x3.handlerPc = 118 ∧ x3.catchType = 345 := by simp only [Prod.mk.injEq] at t3; exact ⟨t3.2.2.1, t3.2.2.2⟩
    have e4 : x4.handlerPc = 118 ∧ x4.catchType = 345 := by simp only [Prod.mk.injEq] at t4; exact ⟨t4.2.2.1, t4.2.2.2⟩
    have e5 : x5.handlerPc = 126 ∧ x5.catchType = 337 := by simp only [Prod.mk.injEq] at t5; exact ⟨t5.2.2.1, t5.2.2.2⟩
    have e6 : x6.handlerPc = 126 ∧ x6.catchType = 337 := by simp only [Prod.mk.injEq] at t6; exact ⟨t6.2.2.1, t6.2.2.2⟩
    match k, hq, hc3 with
    | 0, hq, hc3 =>
      refine z_caught (pc' := 110) (fun T hT hW => ?_) ?_
      · rw [htl, ← e1.1]
        exact zGo_hit (s := s) (C := "java/lang/NullPointerException") (CX := "java/lang/NullPointerException") hpl hW hown (by rw [e1.2]; exact hts _ q849) (z_cov t1 g1 g2) (by rw [e1.2]; decide) (by rw [Stand.throwing_heap, hT]; exact hc1) hc2 hc3 (zN_c hN 2 rfl)
      · refine lv_astore (lv' := [(7, .ref x), (6, .int i), (5, .int (0 : Int32)), (0, .ref (ad 0))]) hx hb dX0_read_110 (lv_sub hl [0, 1, 2] rfl) (by decide) rfl (fun ls hl => ?_)
        refine lv_iconst (v := (1 : Int32)) hx hb dX0_read_112 (by decide) ?_
        refine lv_istore (lv' := [(5, .int (1 : Int32)), (7, .ref x), (6, .int i), (0, .ref (ad 0))]) hx hb dX0_read_113 hl (by decide) rfl (fun ls hl => ?_)
        refine lv_goto (tgt := 131) hx hb dX0_read_115 (by decide) ?_
        exact tor _ i fln twn fxn flt twt fxt _ _ _ _ _ [] (lv_sub hl [0, 2, 3] rfl) h1 h2 hq hP hD hS
    | 1, hq, hc3 =>
      refine z_caught (pc' := 118) (fun T hT hW => ?_) ?_
      · rw [htl, ← e3.1]
        refine zGo_pass (s := s) (C := "java/lang/NullPointerException") (CX := "java/lang/ClassCastException") hpl hW hown (by rw [e1.2]; exact hts _ q849) (z_cov t1 g1 g2) (by rw [e1.2]; decide) (by rw [Stand.throwing_heap, hT]; exact hc1) hc2 hc3 (hh.2.2.2.1.2.2 ("java/lang/ClassCastException", "java/lang/NullPointerException") (by decide)) (fun vm1 hW1 => ?_)
        refine zGo_skipE (z_ncov t2 (by show pcc < 101; omega)) ?_
        exact zGo_hit (s := s) (C := "java/lang/ClassCastException") (CX := "java/lang/ClassCastException") hpl hW1 hown (by rw [e3.2]; exact hts _ q900) (z_cov t3 g1 g2) (by rw [e3.2]; decide) (by rw [Stand.throwing_heap, hT]; exact hc1) hc2 hc3 (zN_c hN 5 rfl)
      · refine lv_astore (lv' := [(7, .ref x), (6, .int i), (5, .int (0 : Int32)), (0, .ref (ad 0))]) hx hb dX0_read_118 (lv_sub hl [0, 1, 2] rfl) (by decide) rfl (fun ls hl => ?_)
        refine lv_iconst (v := (3 : Int32)) hx hb dX0_read_120 (by decide) ?_
        refine lv_istore (lv' := [(5, .int (3 : Int32)), (7, .ref x), (6, .int i), (0, .ref (ad 0))]) hx hb dX0_read_121 hl (by decide) rfl (fun ls hl => ?_)
        refine lv_goto (tgt := 131) hx hb dX0_read_123 (by decide) ?_
        exact tor _ i fln twn fxn flt twt fxt _ _ _ _ _ [] (lv_sub hl [0, 2, 3] rfl) h1 h2 hq hP hD hS
    | k + 2, hq, hc3 =>
      refine z_caught (pc' := 126) (fun T hT hW => ?_) ?_
      · rw [htl, ← e5.1]
        refine zGo_pass (s := s) (C := "java/lang/NullPointerException") (CX := "java/lang/ArrayIndexOutOfBoundsException") hpl hW hown (by rw [e1.2]; exact hts _ q849) (z_cov t1 g1 g2) (by rw [e1.2]; decide) (by rw [Stand.throwing_heap, hT]; exact hc1) hc2 hc3 (hh.2.2.2.1.2.2 ("java/lang/ArrayIndexOutOfBoundsException", "java/lang/NullPointerException") (by decide)) (fun vm1 hW1 => ?_)
        refine zGo_skipE (z_ncov t2 (by show pcc < 101; omega)) ?_
        refine zGo_pass (s := s) (C := "java/lang/ClassCastException") (CX := "java/lang/ArrayIndexOutOfBoundsException") hpl hW1 hown (by rw [e3.2]; exact hts _ q900) (z_cov t3 g1 g2) (by rw [e3.2]; decide) (by rw [Stand.throwing_heap, hT]; exact hc1) hc2 hc3 (hh.2.2.2.1.2.2 ("java/lang/ArrayIndexOutOfBoundsException", "java/lang/ClassCastException") (by decide)) (fun vm3 hW3 => ?_)
        refine zGo_skipE (z_ncov t4 (by show pcc < 101; omega)) ?_
        exact zGo_hit (s := s) (C := "java/lang/IndexOutOfBoundsException") (CX := "java/lang/ArrayIndexOutOfBoundsException") hpl hW3 hown (by rw [e5.2]; exact hts _ q874) (z_cov t5 g1 g2) (by rw [e5.2]; decide) (by rw [Stand.throwing_heap, hT]; exact hc1) hc2 hc3 (zN_c hN 6 rfl)
      · refine lv_astore (lv' := [(7, .ref x), (6, .int i), (5, .int (0 : Int32)), (0, .ref (ad 0))]) hx hb dX0_read_126 (lv_sub hl [0, 1, 2] rfl) (by decide) rfl (fun ls hl => ?_)
        refine lv_iconst (v := (2 : Int32)) hx hb dX0_read_128 (by decide) ?_
        refine lv_istore (lv' := [(5, .int (2 : Int32)), (7, .ref x), (6, .int i), (0, .ref (ad 0))]) hx hb dX0_read_129 hl (by decide) rfl (fun ls hl => ?_)
        exact tor _ i fln twn fxn flt twt fxt _ _ _ _ _ [] (lv_sub hl [0, 2, 3] rfl) h1 h2 hq hP hD hS
  have loop : ∀ (flt twt fxt : Nat → Int32) (n : Nat) (fln fxn : Nat → Int32) (i : Int32), wpX0_readL sr L pk pn pc f twn flt twt fxt p1 p2 p3 p4 (fun r f1 a b c => Q r (f1, a, b, c, flt, twt, fxt)) n fln fxn i → ∀ (H : Heap) (locs : List Loc) (cl sl : Nat), cl + 6 * n ≤ 126 → sl + 444 * n ≤ 9324 → va_P D vwCl (zRX kk ad g sr f fln twn fxn flt twt fxt ++ va_pl L (zPf kk pk pn pc)) H → va_D A (zRX kk ad g sr f fln twn fxn flt twt fxt ++ va_pl L (zPf kk pk pn pc)) → va_S A s.heap H locs → ∀ ls : Array Slot, lv_has ls 8 [(6, .int i), (5, .int (0 : Int32)), (0, .ref (ad 0)), (1, .int p1), (2, .int p2), (3, .int p3), (4, .int p4)] →
      W p l e { frames := 9, cells := 126, slots := 9324, locals := 10400 } s m ([.ref (ad 0), .int p1, .int p2, .int p3, .int p4] : List Value).toArray below meth c H locs cl sl (MT below (zQX (fun r : Int32 => some (.int r)) (fun (r : Int32) (u : zR7) => Q r u) (zB D A (fun u : zR7 => (zRX kk ad g sr u.1 u.2.1 u.2.2.1 u.2.2.2.1 u.2.2.2.2.1 u.2.2.2.2.2.1 u.2.2.2.2.2.2 ++ va_pl L (zPf kk pk pn pc)))) (fun _ : Unit => False) (zBT D A (fun _ _ => []) (fun _ => "")) A) ([.ref (ad 0), .int p1, .int p2, .int p3, .int p4] : List Value).toArray s 126 9324 A) (F0 m 40 ls []) := by
    intro flt twt fxt n
    induction n with
    | zero => intro fln fxn i h; exact absurd h id
    | succ n ih =>
      intro fln fxn i h H locs cl sl hcl hsl hP hD hS ls hl
      have h : (p4 ≤ i → Q i (upd f 24 0, fln, twn, fxn, flt, twt, fxt)) ∧ (¬ p4 ≤ i → wpX0_takenOf sr L pk pn pc p1 p2 (p3 + (2 : Int32) * i) (fun a => wpX0_takenOf sr L pk pn pc p1 p2 (p3 + (2 : Int32) * i + (1 : Int32)) (fun b => wpX0_book fln fxn a b (fun r fln1 fxn1 => (0 ≤ r → wpX0_readL sr L pk pn pc f twn flt twt fxt p1 p2 p3 p4 (fun r f1 a b c => Q r (f1, a, b, c, flt, twt, fxt)) n fln1 fxn1 (i + 1)) ∧ (¬ 0 ≤ r → wpX5_as fln1 twn fxn1 flt twt fxt (fun x y z => Q ((-20 : Int32) - i) (f, x, y, z, flt, twt, fxt))))) (fun k => Q i (upd f 24 (zWhy k), fln, twn, fxn, flt, twt, fxt))) (fun k => Q i (upd f 24 (zWhy k), fln, twn, fxn, flt, twt, fxt))) := h
      refine lv_iload hx hb dX0_read_40 (lv_at hl 0 rfl) ?_
      refine lv_iload hx hb dX0_read_42 (lv_at hl 6 rfl) ?_
      refine lv_icmp_ge (tgt := 107) hx hb dX0_read_44 (by decide) (fun c1 => ?_) (fun c1 => ?_)
      · refine lv_goto (tgt := 131) hx hb dX0_read_107 (by decide) ?_
        exact tor _ i fln twn fxn flt twt fxt _ _ _ _ _ [] (lv_sub hl [1, 0, 2] rfl) (by omega) (by omega) (h.1 c1) hP hD hS
      have h := h.2 c1
      refine lv_aload_n hx hb dX0_read_47 rfl (lv_at hl 2 rfl) ?_
      refine lv_iload_n hx hb dX0_read_48 rfl (lv_at hl 3 rfl) ?_
      refine lv_iload_n hx hb dX0_read_49 rfl (lv_at hl 4 rfl) ?_
      refine lv_iload_n hx hb dX0_read_50 rfl (lv_at hl 5 rfl) ?_
      refine lv_iconst (v := (2 : Int32)) hx hb dX0_read_51 (by decide) ?_
      refine lv_iload hx hb dX0_read_52 (lv_at hl 0 rfl) ?_
      refine lv_imul hx hb dX0_read_54 ?_
      refine lv_iadd hx hb dX0_read_55 ?_
      have hrc := va_recv hK hP (ci := 0) (q0 := 0) rfl rfl
      refine zp_c (X := zRX kk ad g sr f fln twn fxn flt twt fxt) (pl := va_pl L (zPf kk pk pn pc)) (cx := zSX kk ad f g sr) (wr := [zL (ad 6) (ad 7) (ad 8) fln, zA (kk 0) (ad 7) 20 twn, zA (kk 0) (ad 8) 20 fxn, zL (ad 9) (ad 10) (ad 11) flt, zA (kk 0) (ad 10) 20 twt, zA (kk 0) (ad 11) 20 fxt]) (rx := fun _ : Unit => zSX kk ad f g sr) (pl1 := fun _ : Unit => va_pl L (zPf kk pk pn pc)) (rxT := fun _ _ => zSX kk ad f g sr) (plT := fun _ _ => va_pl L (zPf kk pk pn pc)) (rest := []) [0, 1, 2, 3, 4, 5] [6, 7, 8, 9, 10, 11] rfl rfl (by decide) (by decide) (by decide) hA hP hD hS (fun hP hD => zx_runV (As := [.int p1, .int p2, .int (p3 + (2 : Int32) * i)]) (rest := []) 3 ⟨hx, hb, hml, hown, hts⟩ (metX0_takenOf l htr D kk ad _ f g sr L pk pn pc p1 p2 _ _ _ h) (Or.inl ⟨rfl, rfl⟩) q917 rfl rfl ⟨(Nat.le_of_ble_eq_true rfl), (Nat.le_of_ble_eq_true rfl)⟩ q914 q916 qs33 q64 pdX0_takenOf (zpx_V hK hN hh.2.2.2.1 hS hh.2.2.2.2.2 hrc hP hD) rfl rfl hl.1 rfl (lv_room (Nat.le_of_ble_eq_true rfl)) dX0_read_56 ⟨by show cl + 3 ≤ 126; omega, by show sl + 222 ≤ 9324; omega⟩) (fun a _ H locs h hP hD hS => ?_) (fun x k H1 locs hq hP hD hS hc => ?_)
      rotate_left
      · have hP : va_P D vwCl (zRX kk ad g sr f fln twn fxn flt twt fxt ++ va_pl L (zPf kk pk pn pc)) H1 := (z_re (D := D) (A := A) (H := H1) (X' := zRX kk ad g sr f fln twn fxn flt twt fxt) [6, 7, 8, 9, 10, 11, 0, 1, 2, 3, 4, 5] rfl (by decide)).1 hP
        have hD : va_D A (zRX kk ad g sr f fln twn fxn flt twt fxt ++ va_pl L (zPf kk pk pn pc)) := (z_re (D := D) (A := A) (H := H1) (X' := zRX kk ad g sr f fln twn fxn flt twt fxt) [6, 7, 8, 9, 10, 11, 0, 1, 2, 3, 4, 5] rfl (by decide)).2 hD
        exact thr k i fln twn fxn flt twt fxt H1 x _ _ _ _ _ _ [] hl (Nat.le_of_ble_eq_true rfl) (Nat.le_of_ble_eq_true rfl) (by show cl + 3 ≤ 126; omega) (by show sl + 222 ≤ 9324; omega) hq hP hD hS hc
      have hP : va_P D vwCl (zRX kk ad g sr f fln twn fxn flt twt fxt ++ va_pl L (zPf kk pk pn pc)) H := (z_re (D := D) (A := A) (H := H) (X' := zRX kk ad g sr f fln twn fxn flt twt fxt) [6, 7, 8, 9, 10, 11, 0, 1, 2, 3, 4, 5] rfl (by decide)).1 hP
      have hD : va_D A (zRX kk ad g sr f fln twn fxn flt twt fxt ++ va_pl L (zPf kk pk pn pc)) := (z_re (D := D) (A := A) (H := H) (X' := zRX kk ad g sr f fln twn fxn flt twt fxt) [6, 7, 8, 9, 10, 11, 0, 1, 2, 3, 4, 5] rfl (by decide)).2 hD
      refine lv_istore (lv' := [(7, .int a), (6, .int i), (5, .int (0 : Int32)), (0, .ref (ad 0)), (1, .int p1), (2, .int p2), (3, .int p3), (4, .int p4)]) hx hb dX0_read_59 hl (by decide) rfl (fun ls hl => ?_)
      refine lv_aload_n hx hb dX0_read_61 rfl (lv_at hl 3 rfl) ?_
      refine lv_iload hx hb dX0_read_62 (lv_at hl 0 rfl) ?_
      refine lv_aload_n hx hb dX0_read_64 rfl (lv_at hl 3 rfl) ?_
      refine lv_iload_n hx hb dX0_read_65 rfl (lv_at hl 4 rfl) ?_
      refine lv_iload_n hx hb dX0_read_66 rfl (lv_at hl 5 rfl) ?_
      refine lv_iload_n hx hb dX0_read_67 rfl (lv_at hl 6 rfl) ?_
      refine lv_iconst (v := (2 : Int32)) hx hb dX0_read_68 (by decide) ?_
      refine lv_iload hx hb dX0_read_69 (lv_at hl 1 rfl) ?_
      refine lv_imul hx hb dX0_read_71 ?_
      refine lv_iadd hx hb dX0_read_72 ?_
      refine lv_iconst (v := (1 : Int32)) hx hb dX0_read_73 (by decide) ?_
      refine lv_iadd hx hb dX0_read_74 ?_
      have hl := lv_sub hl [1, 2, 3, 4, 5, 6, 7] rfl
      have hrc := va_recv hK hP (ci := 0) (q0 := 0) rfl rfl
      refine zp_c (X := zRX kk ad g sr f fln twn fxn flt twt fxt) (pl := va_pl L (zPf kk pk pn pc)) (cx := zSX kk ad f g sr) (wr := [zL (ad 6) (ad 7) (ad 8) fln, zA (kk 0) (ad 7) 20 twn, zA (kk 0) (ad 8) 20 fxn, zL (ad 9) (ad 10) (ad 11) flt, zA (kk 0) (ad 10) 20 twt, zA (kk 0) (ad 11) 20 fxt]) (rx := fun _ : Unit => zSX kk ad f g sr) (pl1 := fun _ : Unit => va_pl L (zPf kk pk pn pc)) (rxT := fun _ _ => zSX kk ad f g sr) (plT := fun _ _ => va_pl L (zPf kk pk pn pc)) (rest := [.int a, .ref (ad 0)]) [0, 1, 2, 3, 4, 5] [6, 7, 8, 9, 10, 11] rfl rfl (by decide) (by decide) (by decide) hA hP hD hS (fun hP hD => zx_runV (As := [.int p1, .int p2, .int (p3 + (2 : Int32) * i + (1 : Int32))]) (rest := [.int a, .ref (ad 0)]) 3 ⟨hx, hb, hml, hown, hts⟩ (metX0_takenOf l htr D kk ad _ f g sr L pk pn pc p1 p2 _ _ _ h) (Or.inl ⟨rfl, rfl⟩) q917 rfl rfl ⟨(Nat.le_of_ble_eq_true rfl), (Nat.le_of_ble_eq_true rfl)⟩ q914 q916 qs33 q64 pdX0_takenOf (zpx_V hK hN hh.2.2.2.1 hS hh.2.2.2.2.2 hrc hP hD) rfl rfl hl.1 rfl (lv_room (Nat.le_of_ble_eq_true rfl)) dX0_read_75 ⟨by show cl + 3 + 3 ≤ 126; omega, by show sl + 222 + 222 ≤ 9324; omega⟩) (fun b _ H locs h hP hD hS => ?_) (fun x k H1 locs hq hP hD hS hc => ?_)
      rotate_left
      · have hP : va_P D vwCl (zRX kk ad g sr f fln twn fxn flt twt fxt ++ va_pl L (zPf kk pk pn pc)) H1 := (z_re (D := D) (A := A) (H := H1) (X' := zRX kk ad g sr f fln twn fxn flt twt fxt) [6, 7, 8, 9, 10, 11, 0, 1, 2, 3, 4, 5] rfl (by decide)).1 hP
        have hD : va_D A (zRX kk ad g sr f fln twn fxn flt twt fxt ++ va_pl L (zPf kk pk pn pc)) := (z_re (D := D) (A := A) (H := H1) (X' := zRX kk ad g sr f fln twn fxn flt twt fxt) [6, 7, 8, 9, 10, 11, 0, 1, 2, 3, 4, 5] rfl (by decide)).2 hD
        exact thr k i fln twn fxn flt twt fxt H1 x _ _ _ _ _ _ [] hl (Nat.le_of_ble_eq_true rfl) (Nat.le_of_ble_eq_true rfl) (by show cl + 3 + 3 ≤ 126; omega) (by show sl + 222 + 222 ≤ 9324; omega) hq hP hD hS hc
      have hP : va_P D vwCl (zRX kk ad g sr f fln twn fxn flt twt fxt ++ va_pl L (zPf kk pk pn pc)) H := (z_re (D := D) (A := A) (H := H) (X' := zRX kk ad g sr f fln twn fxn flt twt fxt) [6, 7, 8, 9, 10, 11, 0, 1, 2, 3, 4, 5] rfl (by decide)).1 hP
      have hD : va_D A (zRX kk ad g sr f fln twn fxn flt twt fxt ++ va_pl L (zPf kk pk pn pc)) := (z_re (D := D) (A := A) (H := H) (X' := zRX kk ad g sr f fln twn fxn flt twt fxt) [6, 7, 8, 9, 10, 11, 0, 1, 2, 3, 4, 5] rfl (by decide)).2 hD
      have hrc := va_recv hK hP (ci := 0) (q0 := 0) rfl rfl
      refine zq_i (X := zRX kk ad g sr f fln twn fxn flt twt fxt) (wc := [zO ad f g, zL (ad 6) (ad 7) (ad 8) fln, zA (kk 0) (ad 7) 20 twn, zA (kk 0) (ad 8) 20 fxn]) (wr := [zQ (kk 6) (ad 25) 4 (zSf ad), zS (ad 26) (sr 0), zS (ad 27) (sr 1), zS (ad 28) (sr 2), zS (ad 29) (sr 3), zL (ad 9) (ad 10) (ad 11) flt, zA (kk 0) (ad 10) 20 twt, zA (kk 0) (ad 11) 20 fxt]) (w1 := fun u : (Nat → Int32) × (Nat → Int32) => [zO ad f g, zL (ad 6) (ad 7) (ad 8) u.1, zA (kk 0) (ad 7) 20 twn, zA (kk 0) (ad 8) 20 u.2]) (rest := []) [0, 6, 7, 8] [1, 2, 3, 4, 5, 9, 10, 11] rfl rfl (by decide) (by decide) (by decide) hA hP hD hS (fun hP hD => va_runV (As := [.int a, .int b]) (rest := []) ⟨hx, hb, hml, hown, hts⟩ (metX0_book l D kk ad _ f g fln twn fxn a b _ h) (cwV 2 hts (lw_V q918 q590 q591 q64 q592) rfl rfl rfl pdX0_book ⟨(Nat.le_of_ble_eq_true rfl), (Nat.le_of_ble_eq_true rfl)⟩) (zp_V hK hN hrc hP hD) rfl rfl hl.1 rfl (lv_room (Nat.le_of_ble_eq_true rfl)) dX0_read_78 ⟨by show cl + 3 + 3 + 0 ≤ 126; omega, by show sl + 222 + 222 + 0 ≤ 9324; omega⟩) (fun r u H locs h hP hD hS => ?_)
      obtain ⟨fln1, fxn1⟩ := u
      have hP : va_P D vwCl (zRX kk ad g sr f fln1 twn fxn1 flt twt fxt ++ va_pl L (zPf kk pk pn pc)) H := (z_re (D := D) (A := A) (H := H) (X' := zRX kk ad g sr f fln1 twn fxn1 flt twt fxt) [8, 0, 1, 2, 3, 4, 9, 10, 11, 5, 6, 7] rfl (by decide)).1 hP
      have hD : va_D A (zRX kk ad g sr f fln1 twn fxn1 flt twt fxt ++ va_pl L (zPf kk pk pn pc)) := (z_re (D := D) (A := A) (H := H) (X' := zRX kk ad g sr f fln1 twn fxn1 flt twt fxt) [8, 0, 1, 2, 3, 4, 9, 10, 11, 5, 6, 7] rfl (by decide)).2 hD
      refine lv_if_ge (tgt := 101) hx hb dX0_read_81 (by decide) (fun c2 => ?_) (fun c2 => ?_)
      · refine lv_iinc (v := (i + 1)) (lv' := [(6, .int (i + 1)), (5, .int (0 : Int32)), (0, .ref (ad 0)), (1, .int p1), (2, .int p2), (3, .int p3), (4, .int p4)]) hx hb dX0_read_101 hl (k := 0) rfl rfl (by decide) rfl (fun ls hl => ?_)
        refine lv_goto (tgt := 40) hx hb dX0_read_104 (by decide) ?_
        exact ih fln1 fxn1 (i + 1) (h.1 c2) _ _ _ _ (by show cl + 3 + 3 + 0 + 6 * n ≤ 126; omega) (by show sl + 222 + 222 + 0 + 444 * n ≤ 9324; omega) hP hD hS _ hl
      · have h := h.2 c2
        refine lv_aload_n hx hb dX0_read_84 rfl (lv_at hl 2 rfl) ?_
        refine va_get (D := D) (ci := 0) (v := .ref (ad 6)) (C := RX0) (T := TX0) (N := 25) hx hb hts in_X0 hown hK hP 0 rfl rfl 1 (Nat.le_of_ble_eq_true rfl) (hts _ q173) (fun _ h9 => h9) rfl dX0_read_85 ?_
        refine lv_aload_n hx hb dX0_read_88 rfl (lv_at hl 2 rfl) ?_
        refine va_get (D := D) (ci := 0) (v := .ref (ad 9)) (C := RX0) (T := TX0) (N := 25) hx hb hts in_X0 hown hK hP 0 rfl rfl 2 (Nat.le_of_ble_eq_true rfl) (hts _ q174) (fun _ h9 => h9) rfl dX0_read_89 ?_
        have hrc := va_recv hK hP (ci := 5) (q0 := 6) rfl rfl
        refine zq_v (X := zRX kk ad g sr f fln1 twn fxn1 flt twt fxt) (wc := [zL (ad 6) (ad 7) (ad 8) fln1, zA (kk 0) (ad 7) 20 twn, zA (kk 0) (ad 8) 20 fxn1, zL (ad 9) (ad 10) (ad 11) flt, zA (kk 0) (ad 10) 20 twt, zA (kk 0) (ad 11) 20 fxt]) (wr := [zO ad f g, zQ (kk 6) (ad 25) 4 (zSf ad), zS (ad 26) (sr 0), zS (ad 27) (sr 1), zS (ad 28) (sr 2), zS (ad 29) (sr 3)]) (w1 := fun u : (Nat → Int32) × (Nat → Int32) × (Nat → Int32) => [zL (ad 6) (ad 7) (ad 8) u.1, zA (kk 0) (ad 7) 20 u.2.1, zA (kk 0) (ad 8) 20 u.2.2, zL (ad 9) (ad 10) (ad 11) flt, zA (kk 0) (ad 10) 20 twt, zA (kk 0) (ad 11) 20 fxt]) (rest := []) [6, 7, 8, 9, 10, 11] [0, 1, 2, 3, 4, 5] rfl rfl (by decide) (by decide) (by decide) hA hP hD hS (fun hP hD => va_runV (As := [.ref (ad 9)]) (rest := []) ⟨hx, hb, hml, hown, hts⟩ (metX5_as l D kk (ad 6) (ad 7) (ad 8) (ad 9) (ad 10) (ad 11) _ fln1 twn fxn1 flt twt fxt _ h) (cwV 1 hts (lw_V q489 q490 q491 q69 q492) rfl rfl rfl pdX5_as ⟨(Nat.le_of_ble_eq_true rfl), (Nat.le_of_ble_eq_true rfl)⟩) (zp_V hK hN hrc hP hD) rfl rfl hl.1 rfl (lv_room (Nat.le_of_ble_eq_true rfl)) dX0_read_92 ⟨by show cl + 3 + 3 + 0 + 0 ≤ 126; omega, by show sl + 222 + 222 + 0 + 0 ≤ 9324; omega⟩) (fun u H locs h hP hD hS => ?_)
        obtain ⟨fln2, twn2, fxn2⟩ := u
        have hP : va_P D vwCl (zRX kk ad g sr f fln2 twn2 fxn2 flt twt fxt ++ va_pl L (zPf kk pk pn pc)) H := (z_re (D := D) (A := A) (H := H) (X' := zRX kk ad g sr f fln2 twn2 fxn2 flt twt fxt) [0, 1, 2, 3, 4, 5, 6, 7, 8, 9, 10, 11] rfl (by decide)).1 hP
        have hD : va_D A (zRX kk ad g sr f fln2 twn2 fxn2 flt twt fxt ++ va_pl L (zPf kk pk pn pc)) := (z_re (D := D) (A := A) (H := H) (X' := zRX kk ad g sr f fln2 twn2 fxn2 flt twt fxt) [0, 1, 2, 3, 4, 5, 6, 7, 8, 9, 10, 11] rfl (by decide)).2 hD
        refine lv_bipush (v := (-20 : Int32)) hx hb dX0_read_95 (by decide) ?_
        refine lv_iload hx hb dX0_read_97 (lv_at hl 0 rfl) ?_
        refine lv_isub hx hb dX0_read_99 ?_
        exact fin (f, fln2, twn2, fxn2, flt, twt, fxt) _ _ _ _ _ _ _ dX0_read_100 (by show cl + 3 + 3 + 0 + 0 ≤ 126; omega) (by show sl + 222 + 222 + 0 + 0 ≤ 9324; omega) h hP hD hS
  refine lv_iload_n hx hb dX0_read_0 rfl (lv_at hl 1 rfl) ?_
  refine lv_iload_n hx hb dX0_read_1 rfl (lv_at hl 2 rfl) ?_
  refine zq_i (X := zRX kk ad g sr f fln twn fxn flt twt fxt) (wc := []) (wr := zRX kk ad g sr f fln twn fxn flt twt fxt) (w1 := fun _ : Unit => []) (rest := []) [] [0, 1, 2, 3, 4, 5, 6, 7, 8, 9, 10, 11] rfl rfl (by decide) (by decide) (by decide) hA hP hD hS (fun hP hD => va_runS (As := [.int p1, .int p2]) (rest := []) ⟨hx, hb, hml, hown, hts⟩ (metX0_isSheet l D kk _ p1 p2 _ h) (va_cwS 2 hts (lw_S q841 q842 q64 q843) rfl rfl rfl pdX0_isSheet.2 ⟨(Nat.le_of_ble_eq_true rfl), (Nat.le_of_ble_eq_true rfl)⟩) (zp_S hK hN hP hD) rfl rfl hl.1 rfl (lv_room (Nat.le_of_ble_eq_true rfl)) dX0_read_2 ⟨(Nat.le_of_ble_eq_true rfl), (Nat.le_of_ble_eq_true rfl)⟩) (fun r u H locs h hP hD hS => ?_)
  have hP : va_P D vwCl (zRX kk ad g sr f fln twn fxn flt twt fxt ++ va_pl L (zPf kk pk pn pc)) H := hP
  have hD : va_D A (zRX kk ad g sr f fln twn fxn flt twt fxt ++ va_pl L (zPf kk pk pn pc)) := hD
  have bad : ∀ (H : Heap) (locs : List Loc) (cl sl : Nat), cl ≤ 126 → sl ≤ 9324 → Q (-1 : Int32) (f, fln, twn, fxn, flt, twt, fxt) → va_P D vwCl (zRX kk ad g sr f fln twn fxn flt twt fxt ++ va_pl L (zPf kk pk pn pc)) H → va_D A (zRX kk ad g sr f fln twn fxn flt twt fxt ++ va_pl L (zPf kk pk pn pc)) → va_S A s.heap H locs → W p l e { frames := 9, cells := 126, slots := 9324, locals := 10400 } s m ([.ref (ad 0), .int p1, .int p2, .int p3, .int p4] : List Value).toArray below meth c H locs cl sl (MT below (zQX (fun r : Int32 => some (.int r)) (fun (r : Int32) (u : zR7) => Q r u) (zB D A (fun u : zR7 => (zRX kk ad g sr u.1 u.2.1 u.2.2.1 u.2.2.2.1 u.2.2.2.2.1 u.2.2.2.2.2.1 u.2.2.2.2.2.2 ++ va_pl L (zPf kk pk pn pc)))) (fun _ : Unit => False) (zBT D A (fun _ _ => []) (fun _ => "")) A) ([.ref (ad 0), .int p1, .int p2, .int p3, .int p4] : List Value).toArray s 126 9324 A) (F0 m 21 ls []) := by
    intro H locs cl sl h1 h2 hq hP hD hS
    refine lv_iconst (v := (-1 : Int32)) hx hb dX0_read_21 (by decide) ?_
    exact fin (f, fln, twn, fxn, flt, twt, fxt) _ _ _ _ _ _ _ dX0_read_22 h1 h2 hq hP hD hS
  refine lv_if_eq (tgt := 21) hx hb dX0_read_5 (by decide) (fun c1 => ?_) (fun c1 => ?_)
  · exact bad _ _ _ _ (Nat.le_of_ble_eq_true rfl) (Nat.le_of_ble_eq_true rfl) (h.1 c1) hP hD hS
  have h := h.2 c1
  refine lv_iload hx hb dX0_read_8 (lv_at hl 4 rfl) ?_
  refine lv_i2l hx hb dX0_read_10 rfl ?_
  refine lv_lconst (v := (0 : Int64)) hx hb dX0_read_11 (by decide) ?_
  refine lv_ldc2 (v := (20 : Int64)) hx hb hown (hts _ q581) dX0_read_12 ?_
  refine zq_i (X := zRX kk ad g sr f fln twn fxn flt twt fxt) (wc := []) (wr := zRX kk ad g sr f fln twn fxn flt twt fxt) (w1 := fun _ : Unit => []) (rest := []) [] [0, 1, 2, 3, 4, 5, 6, 7, 8, 9, 10, 11] rfl rfl (by decide) (by decide) (by decide) hA hP hD hS (fun hP hD => va_runS (As := [.long p4.toInt64, .long (0 : Int64), .long (20 : Int64)]) (rest := []) ⟨hx, hb, hml, hown, hts⟩ (metX0_in l D kk _ p4.toInt64 (0 : Int64) (20 : Int64) _ h) (va_cwS 3 hts (lw_S q254 q255 q64 q256) rfl rfl rfl pdX0_in.2 ⟨(Nat.le_of_ble_eq_true rfl), (Nat.le_of_ble_eq_true rfl)⟩) (zp_S hK hN hP hD) rfl rfl hl.1 rfl (lv_room (Nat.le_of_ble_eq_true rfl)) dX0_read_15 ⟨(Nat.le_of_ble_eq_true rfl), (Nat.le_of_ble_eq_true rfl)⟩) (fun r2 u H locs h hP hD hS => ?_)
  have hP : va_P D vwCl (zRX kk ad g sr f fln twn fxn flt twt fxt ++ va_pl L (zPf kk pk pn pc)) H := hP
  have hD : va_D A (zRX kk ad g sr f fln twn fxn flt twt fxt ++ va_pl L (zPf kk pk pn pc)) := hD
  refine lv_if_ne (tgt := 23) hx hb dX0_read_18 (by decide) (fun c2 => ?_) (fun c2 => ?_)
  · have h := h.2 c2
    refine lv_aload_n hx hb dX0_read_23 rfl (lv_at hl 0 rfl) ?_
    refine va_get (D := D) (ci := 0) (v := .ref (ad 9)) (C := RX0) (T := TX0) (N := 25) hx hb hts in_X0 hown hK hP 0 rfl rfl 2 (Nat.le_of_ble_eq_true rfl) (hts _ q174) (fun _ h9 => h9) rfl dX0_read_24 ?_
    refine lv_aload_n hx hb dX0_read_27 rfl (lv_at hl 0 rfl) ?_
    refine va_get (D := D) (ci := 0) (v := .ref (ad 6)) (C := RX0) (T := TX0) (N := 25) hx hb hts in_X0 hown hK hP 0 rfl rfl 1 (Nat.le_of_ble_eq_true rfl) (hts _ q173) (fun _ h9 => h9) rfl dX0_read_28 ?_
    have hrc := va_recv hK hP (ci := 5) (q0 := 9) rfl rfl
    refine zq_v (X := zRX kk ad g sr f fln twn fxn flt twt fxt) (wc := [zL (ad 9) (ad 10) (ad 11) flt, zA (kk 0) (ad 10) 20 twt, zA (kk 0) (ad 11) 20 fxt, zL (ad 6) (ad 7) (ad 8) fln, zA (kk 0) (ad 7) 20 twn, zA (kk 0) (ad 8) 20 fxn]) (wr := [zO ad f g, zQ (kk 6) (ad 25) 4 (zSf ad), zS (ad 26) (sr 0), zS (ad 27) (sr 1), zS (ad 28) (sr 2), zS (ad 29) (sr 3)]) (w1 := fun u : (Nat → Int32) × (Nat → Int32) × (Nat → Int32) => [zL (ad 9) (ad 10) (ad 11) u.1, zA (kk 0) (ad 10) 20 u.2.1, zA (kk 0) (ad 11) 20 u.2.2, zL (ad 6) (ad 7) (ad 8) fln, zA (kk 0) (ad 7) 20 twn, zA (kk 0) (ad 8) 20 fxn]) (rest := []) [9, 10, 11, 6, 7, 8] [0, 1, 2, 3, 4, 5] rfl rfl (by decide) (by decide) (by decide) hA hP hD hS (fun hP hD => va_runV (As := [.ref (ad 6)]) (rest := []) ⟨hx, hb, hml, hown, hts⟩ (metX5_as l D kk (ad 9) (ad 10) (ad 11) (ad 6) (ad 7) (ad 8) _ flt twt fxt fln twn fxn _ h) (cwV 1 hts (lw_V q489 q490 q491 q69 q492) rfl rfl rfl pdX5_as ⟨(Nat.le_of_ble_eq_true rfl), (Nat.le_of_ble_eq_true rfl)⟩) (zp_V hK hN hrc hP hD) rfl rfl hl.1 rfl (lv_room (Nat.le_of_ble_eq_true rfl)) dX0_read_31 ⟨by show 0 + 0 + 0 + 0 ≤ 126; omega, by show 0 + 0 + 0 + 0 ≤ 9324; omega⟩) (fun u H locs h hP hD hS => ?_)
    obtain ⟨flt1, twt1, fxt1⟩ := u
    have hP : va_P D vwCl (zRX kk ad g sr f fln twn fxn flt1 twt1 fxt1 ++ va_pl L (zPf kk pk pn pc)) H := (z_re (D := D) (A := A) (H := H) (X' := zRX kk ad g sr f fln twn fxn flt1 twt1 fxt1) [0, 1, 2, 3, 4, 5, 9, 10, 11, 6, 7, 8] rfl (by decide)).1 hP
    have hD : va_D A (zRX kk ad g sr f fln twn fxn flt1 twt1 fxt1 ++ va_pl L (zPf kk pk pn pc)) := (z_re (D := D) (A := A) (H := H) (X' := zRX kk ad g sr f fln twn fxn flt1 twt1 fxt1) [0, 1, 2, 3, 4, 5, 9, 10, 11, 6, 7, 8] rfl (by decide)).2 hD
    obtain ⟨n, hn, h⟩ := h
    refine lv_iconst (v := (0 : Int32)) hx hb dX0_read_34 (by decide) ?_
    refine lv_istore (lv' := [(5, .int (0 : Int32)), (0, .ref (ad 0)), (1, .int p1), (2, .int p2), (3, .int p3), (4, .int p4)]) hx hb dX0_read_35 hl (by decide) rfl (fun ls hl => ?_)
    refine lv_iconst (v := (0 : Int32)) hx hb dX0_read_37 (by decide) ?_
    refine lv_istore (lv' := [(6, .int (0 : Int32)), (5, .int (0 : Int32)), (0, .ref (ad 0)), (1, .int p1), (2, .int p2), (3, .int p3), (4, .int p4)]) hx hb dX0_read_38 hl (by decide) rfl (fun ls hl => ?_)
    exact loop flt1 twt1 fxt1 n fln fxn 0 h _ _ _ _ (by show 0 + 0 + 0 + 0 + 6 * n ≤ 126; omega) (by show 0 + 0 + 0 + 0 + 444 * n ≤ 9324; omega) hP hD hS _ hl
  · exact bad _ _ _ _ (Nat.le_of_ble_eq_true rfl) (Nat.le_of_ble_eq_true rfl) (h.1 c2) hP hD hS
