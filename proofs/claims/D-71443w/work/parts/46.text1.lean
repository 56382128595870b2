/-! TEXT 1: what lies outside the world: strings, statics -/
set_option maxRecDepth 100000
def zNmS : Nat → String
  | 0 => "plain"
  | 1 => "proud"
  | 2 => "wise"
  | 3 => "careless"
  | _ => "game"
def zLs : List Nat := [5, 5, 4, 8, 4]
def zBs : List (List Int32) := [[112, 108, 97, 105, 110], [112, 114, 111, 117, 100], [119, 105, 115, 101], [99, 97, 114, 101, 108, 101, 115, 115], [103, 97, 109, 101]]
def zU (sg : Nat → Nat) (A : Nat → Prop) (U : State) (H : Heap) : Prop :=
  va_Zq "java/lang/Throwable" "UNASSIGNED_STACK" "[Ljava/lang/StackTraceElement;" A U H ∧ va_Zq "java/lang/Throwable" "SUPPRESSED_SENTINEL" "Ljava/util/List;" A U H ∧ va_Z "java/lang/String" "COMPACT_STRINGS" "Z" (.int 1) A U H ∧ va_Zq "jdk/internal/util/Preconditions" "SIOOBE_FORMATTER" "Ljava/util/function/BiFunction;" A U H ∧ vk_S 5 zLs zBs sg (fun i => sg (5 + i)) A U H ∧ ∀ i, i < 5 → vk_R "LoseLeague$Reader" (47 + 2 * i) (zNmS i) (sg i) U
theorem zU_use {sg : Nat → Nat} {A B : Nat → Prop} {s U : State} {H : Heap} {locs : List Loc} (h : zU sg A s s.heap) (hS : va_S A s.heap H locs) (hW : s.WarmedH U.vm) (hU : U.heap = H) (hAB : ∀ q, B q → A q) : zU sg B U U.heap := by
  obtain ⟨h1, h2, h3, h4, h5, h6⟩ := h
  rw [hU]
  exact ⟨((h1.kept hS.2.1).moved hW.alike).narrow hAB, ((h2.kept hS.2.1).moved hW.alike).narrow hAB, ((h3.kept hS.2.1).moved hW.alike).narrow hAB, ((h4.kept hS.2.1).moved hW.alike).narrow hAB, ((h5.kept hS.2.1).moved hW.alike).narrow hAB, fun i hi => (h6 i hi).warm hW⟩
theorem zU_same {sg : Nat → Nat} {A : Nat → Prop} {u U : State} (hv : U.vm = u.vm) (hh : U.heap = u.heap) (h : zU sg A u u.heap) : zU sg A U U.heap := by
  obtain ⟨h1, h2, h3, h4, h5, h6⟩ := h
  have ha : u.vm.Alike U.vm := by rw [hv]; exact Vm.Alike.refl _
  rw [hh]
  exact ⟨h1.moved ha, h2.moved ha, h3.moved ha, h4.moved ha, h5.moved ha, fun i hi => (h6 i hi).same hv⟩
theorem z_zq {C n d : String} {A : Nat → Prop} {U : State} {H : Heap} (h : va_Zq C n d A U H) : ∃ o : Option Nat, va_Z C n d (va_rf o) A U H := by
  rcases h with h | ⟨t, h⟩
  · exact ⟨none, h⟩
  · exact ⟨some t, h⟩
def zPF (D : va_G) (kk : Nat → ClassId) (sg : Nat → Nat) (ws : va_W) (sz : Nat) (U : State) : Prop := zPX D kk ws sz U ∧ zU sg (va_A ws sz) U U.heap
theorem zPF_blind {D : va_G} {kk : Nat → ClassId} {sg : Nat → Nat} {ws : va_W} {sz : Nat} {av : List Value} : FrameBlind (va_Pc av (zPF D kk sg ws sz)) := by
  intro a U g mk q
  obtain ⟨q0, q1, qU⟩ := q
  exact ⟨q0, (zPX_blind (av := av) a U g mk ⟨q0, q1⟩).2, zU_same (u := U) rfl rfl qU⟩
theorem z_AA {A : Nat → Prop} {wc : va_W} {s : State} {H : Heap} {locs : List Loc} (hA : ∀ q : Nat, s.heap.size ≤ q → A q) (hS : va_S A s.heap H locs) (hD : va_D A wc) : ∀ q, va_A wc H.size q → A q := by
  rintro q (⟨k, e, h⟩ | h)
  · exact hD.2 _ _ h
  · exact hA q (Nat.le_trans hS.1 h)
theorem zpf_V {s : State} {H : Heap} {D : va_G} {kk : Nat → ClassId} {sg : Nat → Nat} {wc : va_W} {A : Nat → Prop} {locs : List Loc} {As : List Value} {b : Nat} {C : String} (hK : va_K D vwCl (zT kk) s) (hN : zN s) (hY : zY s) (hU : zU sg A s s.heap) (hA : ∀ q : Nat, s.heap.size ≤ q → A q) (hS : va_S A s.heap H locs) (hn : ∀ q : Nat, A q → ∀ cell : Cell, s.heap[q]? = some cell → cell.vm.isStatics = false) (hr : ∃ cell : Cell, H[b]? = some cell ∧ cell.vm.isStatics = false ∧ s.vm.findClass C = some cell.cls) (hP : va_P D vwCl wc H) (hD : va_D A wc) : PreV s H C b (va_Pc (.ref b :: As) (zPF D kk sg wc H.size)) As :=
  ⟨zPF_blind, hr, fun U hU' hW => ⟨rfl, ⟨⟨by rw [hU'], by rw [hU']; exact hP, va_K.moved hW.alike hK, zN_warm hW hN, hD.weaken (fun _ _ _ _ => trivial)⟩, zY_warm hW (by rw [hU']; exact z_kept hS hn) hY⟩, zU_use hU hS hW hU' (z_AA hA hS hD)⟩⟩
theorem zpf_S {s : State} {H : Heap} {D : va_G} {kk : Nat → ClassId} {sg : Nat → Nat} {wc : va_W} {A : Nat → Prop} {locs : List Loc} {av : List Value} (hK : va_K D vwCl (zT kk) s) (hN : zN s) (hY : zY s) (hU : zU sg A s s.heap) (hA : ∀ q : Nat, s.heap.size ≤ q → A q) (hS : va_S A s.heap H locs) (hn : ∀ q : Nat, A q → ∀ cell : Cell, s.heap[q]? = some cell → cell.vm.isStatics = false) (hP : va_P D vwCl wc H) (hD : va_D A wc) : PreS s H (va_Pc av (zPF D kk sg wc H.size)) av :=
  ⟨zPF_blind, fun U hU' hW => ⟨rfl, ⟨⟨by rw [hU'], by rw [hU']; exact hP, va_K.moved hW.alike hK, zN_warm hW hN, hD.weaken (fun _ _ _ _ => trivial)⟩, zY_warm hW (by rw [hU']; exact z_kept hS hn) hY⟩, zU_use hU hS hW hU' (z_AA hA hS hD)⟩⟩
theorem zMetF {l : Launch} {y : MethodName} {rm : Room} {cc : ByteArray} {maxL : Nat} {ret : Option FieldType} {mc ms : Nat} {D : va_G} {kk : Nat → ClassId} {sg : Nat → Nat} {W0 : va_W} {sz : Nat} {av : List Value} {Qc : (Nat → Prop) → Array Value → State → Outcome → State → Prop}
    (htr : l.stackTraces = false) (hy : plainName y.cls = true) (hlen : (lg_sl av).length ≤ maxL)
    (body : ∀ p e s m below meth c A, zX p s m av.toArray meth c cc maxL ret y.cls y.name D kk A → zH l s av.toArray A → zU sg A s s.heap → va_P D vwCl W0 s.heap → va_D A W0 → va_S A s.heap s.heap [] → ∀ ls : Array Slot, lv_has ls maxL (lv_args 0 av) →
      W p l e rm s m av.toArray below meth c s.heap [] 0 0 (MQ below (Qc A) av.toArray s mc ms A) (F0 m 0 ls [])) :
    Met l y (ws_ y cc maxL ret) rm (va_Pc av (zPF D kk sg W0 sz)) (Qc (va_A W0 sz)) mc ms (va_A W0 sz) := by
  refine Met.ofW (cc := cc) (maxL := maxL) (ret := ret) hy rfl ?_
  intro p e s m args below meth c s₁ B hml hv
  obtain ⟨rfl, ⟨⟨hsz, hP, hK, hN, hD0⟩, hY⟩, hU⟩ := hv
  have hts := atoms_spec (ws := ws_ y cc maxL ret) B.pre
  have hts : ∀ w ∈ lw_all, w.before _ s = true := fun w h => hts w (List.mem_cons_of_mem _ h)
  have hown : s.vm.findClass y.cls = some m.cls := findClass_of_methodNamed B.named
  subst hsz
  rw [lg_entry_eq]
  exact body p e s m below meth c (va_A W0 s.heap.size) ⟨B.exec, B.bytes, B.returns, hml, hown, hts, B.notSynchronized, (name_of_methodNamed B.named B.method).1, hK, hN, fun q h => Or.inr h⟩ ⟨htr, hts, hN, hY, fun q h => Or.inr h, z_nst hP⟩ hU hP (hD0.self (sz := s.heap.size)) va_S.rf _ (lv_entry av hlen)
theorem zMetFX {l : Launch} {y : MethodName} {rm : Room} {cc : ByteArray} {maxL : Nat} {ret : Option FieldType} {hh : List (Nat × Nat × Nat × Nat)} {w : Cond} {mc ms : Nat} {D : va_G} {kk : Nat → ClassId} {sg : Nat → Nat} {W0 : va_W} {sz : Nat} {av : List Value} {Qc : (Nat → Prop) → Array Value → State → Outcome → State → Prop}
    (htr : l.stackTraces = false) (hy : plainName y.cls = true) (hw : zCode y cc maxL ret hh w) (hlen : (lg_sl av).length ≤ maxL)
    (body : ∀ p e s m below meth c A, zX p s m av.toArray meth c cc maxL ret y.cls y.name D kk A → zH l s av.toArray A → zU sg A s s.heap → c.exceptionTable.toList.map (fun h => (h.startPc, h.endPc, h.handlerPc, h.catchType)) = hh → l.admits e → va_P D vwCl W0 s.heap → va_D A W0 → va_S A s.heap s.heap [] → ∀ ls : Array Slot, lv_has ls maxL (lv_args 0 av) →
      W p l e rm s m av.toArray below meth c s.heap [] 0 0 (MT below (Qc A) av.toArray s mc ms A) (F0 m 0 ls [])) :
    MetX l y (w :: lw_all) rm (va_Pc av (zPF D kk sg W0 sz)) (Qc (va_A W0 sz)) mc ms (va_A W0 sz) := by
  refine zMetX hy hw ?_
  intro p e s m args below meth c hx hb hr hml hown hts hlk hnm htab had hv
  obtain ⟨rfl, ⟨⟨hsz, hP, hK, hN, hD0⟩, hY⟩, hU⟩ := hv
  subst hsz
  rw [lg_entry_eq]
  exact body p e s m below meth c (va_A W0 s.heap.size) ⟨hx, hb, hr, hml, hown, hts, hlk, hnm, hK, hN, fun q h => Or.inr h⟩ ⟨htr, hts, hN, hY, fun q h => Or.inr h, z_nst hP⟩ hU htab had hP (hD0.self (sz := s.heap.size)) va_S.rf _ (lv_entry av hlen)
theorem pdJ2_length : yJ2_length.cls = "java/lang/String" ∧ yJ2_length.cls ≠ "java/lang/invoke/MethodHandle" ∧ yJ2_length.cls ≠ "java/lang/invoke/VarHandle" ∧ (parseMethodDescriptor yJ2_length.desc).map (fun d => d.parameters.length) = some 0 := by decide +kernel
theorem peJ2_length : yJ2_length.name ≠ "<init>" ∧ (parseMethodDescriptor yJ2_length.desc).map (fun d => d.parameters.length) = some 0 := by decide +kernel
theorem pdJ2_coder : yJ2_coder.cls = "java/lang/String" ∧ yJ2_coder.cls ≠ "java/lang/invoke/MethodHandle" ∧ yJ2_coder.cls ≠ "java/lang/invoke/VarHandle" ∧ (parseMethodDescriptor yJ2_coder.desc).map (fun d => d.parameters.length) = some 0 := by decide +kernel
theorem peJ2_coder : yJ2_coder.name ≠ "<init>" ∧ (parseMethodDescriptor yJ2_coder.desc).map (fun d => d.parameters.length) = some 0 := by decide +kernel
theorem pdJ2_charAt : yJ2_charAt.cls = "java/lang/String" ∧ yJ2_charAt.cls ≠ "java/lang/invoke/MethodHandle" ∧ yJ2_charAt.cls ≠ "java/lang/invoke/VarHandle" ∧ (parseMethodDescriptor yJ2_charAt.desc).map (fun d => d.parameters.length) = some 1 := by decide +kernel
theorem peJ2_charAt : yJ2_charAt.name ≠ "<init>" ∧ (parseMethodDescriptor yJ2_charAt.desc).map (fun d => d.parameters.length) = some 1 := by decide +kernel
theorem pdJ2_isLatin1 : yJ2_isLatin1.cls = "java/lang/String" ∧ yJ2_isLatin1.cls ≠ "java/lang/invoke/MethodHandle" ∧ yJ2_isLatin1.cls ≠ "java/lang/invoke/VarHandle" ∧ (parseMethodDescriptor yJ2_isLatin1.desc).map (fun d => d.parameters.length) = some 0 := by decide +kernel
theorem peJ2_isLatin1 : yJ2_isLatin1.name ≠ "<init>" ∧ (parseMethodDescriptor yJ2_isLatin1.desc).map (fun d => d.parameters.length) = some 0 := by decide +kernel
theorem pdJ2_checkIndex : yJ2_checkIndex.cls = "java/lang/String" ∧ yJ2_checkIndex.cls ≠ "java/lang/invoke/MethodHandle" ∧ yJ2_checkIndex.cls ≠ "java/lang/invoke/VarHandle" ∧ (parseMethodDescriptor yJ2_checkIndex.desc).map (fun d => d.parameters.length) = some 2 := by decide +kernel
theorem peJ2_checkIndex : yJ2_checkIndex.name ≠ "<init>" ∧ (parseMethodDescriptor yJ2_checkIndex.desc).map (fun d => d.parameters.length) = some 2 := by decide +kernel
theorem pdJ3_charAt : yJ3_charAt.cls = "java/lang/StringLatin1" ∧ yJ3_charAt.cls ≠ "java/lang/invoke/MethodHandle" ∧ yJ3_charAt.cls ≠ "java/lang/invoke/VarHandle" ∧ (parseMethodDescriptor yJ3_charAt.desc).map (fun d => d.parameters.length) = some 2 := by decide +kernel
theorem peJ3_charAt : yJ3_charAt.name ≠ "<init>" ∧ (parseMethodDescriptor yJ3_charAt.desc).map (fun d => d.parameters.length) = some 2 := by decide +kernel
theorem pdJ4_checkIndex : yJ4_checkIndex.cls = "jdk/internal/util/Preconditions" ∧ yJ4_checkIndex.cls ≠ "java/lang/invoke/MethodHandle" ∧ yJ4_checkIndex.cls ≠ "java/lang/invoke/VarHandle" ∧ (parseMethodDescriptor yJ4_checkIndex.desc).map (fun d => d.parameters.length) = some 3 := by decide +kernel
theorem peJ4_checkIndex : yJ4_checkIndex.name ≠ "<init>" ∧ (parseMethodDescriptor yJ4_checkIndex.desc).map (fun d => d.parameters.length) = some 3 := by decide +kernel
theorem pdJ0_init_2 : yJ0_init_2.cls = "java/lang/Throwable" ∧ yJ0_init_2.cls ≠ "java/lang/invoke/MethodHandle" ∧ yJ0_init_2.cls ≠ "java/lang/invoke/VarHandle" ∧ (parseMethodDescriptor yJ0_init_2.desc).map (fun d => d.parameters.length) = some 4 := by decide +kernel
theorem pdJ1_init : yJ1_init.cls = "java/lang/Exception" ∧ yJ1_init.cls ≠ "java/lang/invoke/MethodHandle" ∧ yJ1_init.cls ≠ "java/lang/invoke/VarHandle" ∧ (parseMethodDescriptor yJ1_init.desc).map (fun d => d.parameters.length) = some 4 := by decide +kernel
theorem pdX9_init : yX9_init.cls = "LoseLeague$Fault" ∧ yX9_init.cls ≠ "java/lang/invoke/MethodHandle" ∧ yX9_init.cls ≠ "java/lang/invoke/VarHandle" ∧ (parseMethodDescriptor yX9_init.desc).map (fun d => d.parameters.length) = some 2 := by decide +kernel
theorem metJ2_isLatin1 (l : Launch) (htr : l.stackTraces = false) (D : va_G) (kk : Nat → ClassId) (sg : Nat → Nat) (sz : Nat) (i : Nat) (hi : i < 5) (Q : Int32 → Prop) (h : Q 1) : Met l yJ2_isLatin1 (ws_ yJ2_isLatin1 cJ2_isLatin1 1 (some .boolean)) { frames := 0, cells := 0, slots := 0, locals := 0 } (va_Pc ([.ref (sg i)] : List Value) (zPF D kk sg [] sz)) (va_Qi (fun (r : Int32) (_ : Unit) => Q r) (zB D (va_A [] sz) (fun _ : Unit => [])) (va_A [] sz)) 0 0 (va_A [] sz) := by
  refine zMetF (Qc := fun A => va_Qi (fun (r : Int32) (_ : Unit) => Q r) (zB D A (fun _ : Unit => [])) A) htr (by decide) (Nat.le_of_ble_eq_true rfl) ?_
  intro p e s m below meth c A X hh hU hP hD hS ls hl
  obtain ⟨hx, hb, hr, hml, hown, hts, hlk, hnm, hK, hN, hA⟩ := X
  have hown : s.vm.findClass "java/lang/String" = some m.cls := hown
  have hl : lv_has ls 1 [(0, .ref (sg i))] := hl
  refine va_gets hx hb hU.2.2.1 hS hown (hts _ q425) (fun _ h9 => h9) dJ2_isLatin1_0 ?_
  refine lv_if_eq (tgt := 17) hx hb dJ2_isLatin1_3 (by decide) (fun c1 => absurd c1 (by decide)) (fun _ => ?_)
  refine lv_aload_n hx hb dJ2_isLatin1_6 rfl (lv_at hl 0 rfl) ?_
  refine vk_getf hx hb (hU.2.2.2.2.1.1 i hi).2.1 hS hown (hts _ q1326) (fun _ h9 => h9) dJ2_isLatin1_7 ?_
  refine lv_if_ne (tgt := 17) hx hb dJ2_isLatin1_10 (by decide) (fun c1 => absurd rfl c1) (fun _ => ?_)
  refine lv_iconst (v := (1 : Int32)) hx hb dJ2_isLatin1_13 (by decide) ?_
  refine lv_goto (tgt := 18) hx hb dJ2_isLatin1_14 (by decide) ?_
  exact zr_i hx hb hr hlk rfl hP hD hS () [] rfl (by decide) dJ2_isLatin1_18 h
theorem metJ2_coder (l : Launch) (htr : l.stackTraces = false) (D : va_G) (kk : Nat → ClassId) (sg : Nat → Nat) (sz : Nat) (i : Nat) (hi : i < 5) (Q : Int32 → Prop) (h : Q 0) : Met l yJ2_coder (ws_ yJ2_coder cJ2_coder 1 (some .byte)) { frames := 0, cells := 0, slots := 0, locals := 0 } (va_Pc ([.ref (sg i)] : List Value) (zPF D kk sg [] sz)) (va_Qi (fun (r : Int32) (_ : Unit) => Q r) (zB D (va_A [] sz) (fun _ : Unit => [])) (va_A [] sz)) 0 0 (va_A [] sz) := by
  refine zMetF (Qc := fun A => va_Qi (fun (r : Int32) (_ : Unit) => Q r) (zB D A (fun _ : Unit => [])) A) htr (by decide) (Nat.le_of_ble_eq_true rfl) ?_
  intro p e s m below meth c A X hh hU hP hD hS ls hl
  obtain ⟨hx, hb, hr, hml, hown, hts, hlk, hnm, hK, hN, hA⟩ := X
  have hown : s.vm.findClass "java/lang/String" = some m.cls := hown
  have hl : lv_has ls 1 [(0, .ref (sg i))] := hl
  refine va_gets hx hb hU.2.2.1 hS hown (hts _ q425) (fun _ h9 => h9) dJ2_coder_0 ?_
  refine lv_if_eq (tgt := 13) hx hb dJ2_coder_3 (by decide) (fun c1 => absurd c1 (by decide)) (fun _ => ?_)
  refine lv_aload_n hx hb dJ2_coder_6 rfl (lv_at hl 0 rfl) ?_
  refine vk_getf hx hb (hU.2.2.2.2.1.1 i hi).2.1 hS hown (hts _ q1326) (fun _ h9 => h9) dJ2_coder_7 ?_
  refine lv_goto (tgt := 14) hx hb dJ2_coder_10 (by decide) ?_
  exact zr_i hx hb hr hlk rfl hP hD hS () [] rfl (by decide) dJ2_coder_14 h
def zLen (i : Nat) (Q : Int32 → Prop) : Prop := Q (Int32.ofNat (zLs.getD i 0) >>> ((0 : Int32) &&& 31))
theorem metJ2_length (l : Launch) (htr : l.stackTraces = false) (D : va_G) (kk : Nat → ClassId) (sg : Nat → Nat) (sz : Nat) (i : Nat) (hi : i < 5) (Q : Int32 → Prop) (h : zLen i Q) : Met l yJ2_length (ws_ yJ2_length cJ2_length 1 (some .int)) { frames := 1, cells := 0, slots := 0, locals := 20 } (va_Pc ([.ref (sg i)] : List Value) (zPF D kk sg [] sz)) (va_Qi (fun (r : Int32) (_ : Unit) => Q r) (zB D (va_A [] sz) (fun _ : Unit => [])) (va_A [] sz)) 0 0 (va_A [] sz) := by
  refine zMetF (Qc := fun A => va_Qi (fun (r : Int32) (_ : Unit) => Q r) (zB D A (fun _ : Unit => [])) A) htr (by decide) (Nat.le_of_ble_eq_true rfl) ?_
  intro p e s m below meth c A X hh hU hP hD hS ls hl
  obtain ⟨hx, hb, hr, hml, hown, hts, hlk, hnm, hK, hN, hA⟩ := X
  have hown : s.vm.findClass "java/lang/String" = some m.cls := hown
  have hl : lv_has ls 1 [(0, .ref (sg i))] := hl
  refine lv_aload_n hx hb dJ2_length_0 rfl (lv_at hl 0 rfl) ?_
  refine vk_getf hx hb (hU.2.2.2.2.1.1 i hi).2.2.1 hS hown (hts _ q1325) (fun _ h9 => h9) dJ2_length_1 ?_
  refine va_tlen hx hb (hU.2.2.2.2.1.1 i hi).2.2.2 hS rfl dJ2_length_4 ?_
  refine lv_aload_n hx hb dJ2_length_5 rfl (lv_at hl 0 rfl) ?_
  have hrc := vk_recv hU.2.2.2.2.1 hi hS
  refine zc_i (wc := []) (wr := []) (w1 := fun _ : Unit => []) (rest := [.int (Int32.ofNat (zLs.getD i 0))]) [] [] rfl rfl (by decide) (by decide) (by decide) hA hP hD hS (fun hP hD => va_runV (As := []) (rest := [.int (Int32.ofNat (zLs.getD i 0))]) ⟨hx, hb, hml, hown, hts⟩ (metJ2_coder l htr D kk sg _ i hi (fun r => Q (Int32.ofNat (zLs.getD i 0) >>> (r &&& 31))) h) (cwV 0 hts (lw_V q421 q422 q423 q76 q424) rfl rfl rfl pdJ2_coder ⟨(Nat.le_of_ble_eq_true rfl), (Nat.le_of_ble_eq_true rfl)⟩) (zpf_V hK hN hh.2.2.2.1 hU hA hS hh.2.2.2.2.2 hrc hP hD) rfl rfl hl.1 rfl (lv_room (Nat.le_of_ble_eq_true rfl)) dJ2_length_6 ⟨(Nat.le_of_ble_eq_true rfl), (Nat.le_of_ble_eq_true rfl)⟩) (fun r u H locs h hP hD hS => ?_)
  refine lv_ishr hx hb dJ2_length_9 ?_
  exact zr_i hx hb hr hlk rfl hP hD hS () [] rfl (by decide) dJ2_length_10 h
theorem metJ4_checkIndex_n (l : Launch) (D : va_G) (kk : Nat → ClassId) (sz : Nat) (i n : Int32) (Q : Int32 → Prop) (h : ¬ i < 0 ∧ i < n ∧ Q i) : Met l yJ4_checkIndex (ws_ yJ4_checkIndex cJ4_checkIndex 3 (some .int)) { frames := 0, cells := 0, slots := 0, locals := 0 } (va_Pc ([.int i, .int n, .null] : List Value) (zPc D kk [] sz)) (va_Qi (fun (r : Int32) (_ : Unit) => Q r) (zB D (va_A [] sz) (fun _ : Unit => [])) (va_A [] sz)) 0 0 (va_A [] sz) := by
  refine zMet (Qc := fun A => va_Qi (fun (r : Int32) (_ : Unit) => Q r) (zB D A (fun _ : Unit => [])) A) (by decide) (Nat.le_of_ble_eq_true rfl) ?_
  intro p e s m below meth c A X hP hD hS ls hl
  obtain ⟨hx, hb, hr, hml, hown, hts, hlk, hnm, hK, hN, hA⟩ := X
  have hl : lv_has ls 3 [(0, .int i), (1, .int n), (2, .null)] := hl
  refine lv_iload_n hx hb dJ4_checkIndex_0 rfl (lv_at hl 0 rfl) ?_
  refine lv_if_lt (tgt := 9) hx hb dJ4_checkIndex_1 (by decide) (fun c1 => absurd c1 h.1) (fun _ => ?_)
  refine lv_iload_n hx hb dJ4_checkIndex_4 rfl (lv_at hl 0 rfl) ?_
  refine lv_iload_n hx hb dJ4_checkIndex_5 rfl (lv_at hl 1 rfl) ?_
  refine lv_icmp_lt (tgt := 16) hx hb dJ4_checkIndex_6 (by decide) (fun _ => ?_) (fun c1 => absurd h.2.1 c1)
  refine lv_iload_n hx hb dJ4_checkIndex_16 rfl (lv_at hl 0 rfl) ?_
  exact zr_i hx hb hr hlk rfl hP hD hS () [] rfl (by decide) dJ4_checkIndex_17 h.2.2
theorem metJ4_checkIndex_r (l : Launch) (D : va_G) (kk : Nat → ClassId) (sz : Nat) (t : Nat) (i n : Int32) (Q : Int32 → Prop) (h : ¬ i < 0 ∧ i < n ∧ Q i) : Met l yJ4_checkIndex (ws_ yJ4_checkIndex cJ4_checkIndex 3 (some .int)) { frames := 0, cells := 0, slots := 0, locals := 0 } (va_Pc ([.int i, .int n, .ref t] : List Value) (zPc D kk [] sz)) (va_Qi (fun (r : Int32) (_ : Unit) => Q r) (zB D (va_A [] sz) (fun _ : Unit => [])) (va_A [] sz)) 0 0 (va_A [] sz) := by
  refine zMet (Qc := fun A => va_Qi (fun (r : Int32) (_ : Unit) => Q r) (zB D A (fun _ : Unit => [])) A) (by decide) (Nat.le_of_ble_eq_true rfl) ?_
  intro p e s m below meth c A X hP hD hS ls hl
  obtain ⟨hx, hb, hr, hml, hown, hts, hlk, hnm, hK, hN, hA⟩ := X
  have hl : lv_has ls 3 [(0, .int i), (1, .int n), (2, .ref t)] := hl
  refine lv_iload_n hx hb dJ4_checkIndex_0 rfl (lv_at hl 0 rfl) ?_
  refine lv_if_lt (tgt := 9) hx hb dJ4_checkIndex_1 (by decide) (fun c1 => absurd c1 h.1) (fun _ => ?_)
  refine lv_iload_n hx hb dJ4_checkIndex_4 rfl (lv_at hl 0 rfl) ?_
  refine lv_iload_n hx hb dJ4_checkIndex_5 rfl (lv_at hl 1 rfl) ?_
  refine lv_icmp_lt (tgt := 16) hx hb dJ4_checkIndex_6 (by decide) (fun _ => ?_) (fun c1 => absurd h.2.1 c1)
  refine lv_iload_n hx hb dJ4_checkIndex_16 rfl (lv_at hl 0 rfl) ?_
  exact zr_i hx hb hr hlk rfl hP hD hS () [] rfl (by decide) dJ4_checkIndex_17 h.2.2
theorem metJ2_checkIndex (l : Launch) (htr : l.stackTraces = false) (D : va_G) (kk : Nat → ClassId) (sg : Nat → Nat) (sz : Nat) (i n : Int32) (Q : Prop) (h : ¬ i < 0 ∧ i < n ∧ Q) : Met l yJ2_checkIndex (ws_ yJ2_checkIndex cJ2_checkIndex 2 none) { frames := 1, cells := 0, slots := 0, locals := 22 } (va_Pc ([.int i, .int n] : List Value) (zPF D kk sg [] sz)) (va_Qv (fun (_ : Unit) => Q) (zB D (va_A [] sz) (fun _ : Unit => [])) (va_A [] sz)) 0 0 (va_A [] sz) := by
  refine zMetF (Qc := fun A => va_Qv (fun (_ : Unit) => Q) (zB D A (fun _ : Unit => [])) A) htr (by decide) (Nat.le_of_ble_eq_true rfl) ?_
  intro p e s m below meth c A X hh hU hP hD hS ls hl
  obtain ⟨hx, hb, hr, hml, hown, hts, hlk, hnm, hK, hN, hA⟩ := X
  have hown : s.vm.findClass "java/lang/String" = some m.cls := hown
  have hl : lv_has ls 2 [(0, .int i), (1, .int n)] := hl
  refine lv_iload_n hx hb dJ2_checkIndex_0 rfl (lv_at hl 0 rfl) ?_
  refine lv_iload_n hx hb dJ2_checkIndex_1 rfl (lv_at hl 1 rfl) ?_
  rcases hU.2.2.2.1 with hZ | ⟨t, hZ⟩
  · refine va_gets hx hb hZ hS hown (hts _ q441) (fun _ h9 => h9) dJ2_checkIndex_2 ?_
    refine zc_i (wc := []) (wr := []) (w1 := fun _ : Unit => []) (rest := []) [] [] rfl rfl (by decide) (by decide) (by decide) hA hP hD hS (fun hP hD => va_runS (As := [.int i, .int n, .null]) (rest := []) ⟨hx, hb, hml, hown, hts⟩ (metJ4_checkIndex_n l D kk _ i n (fun _ => Q) h) (va_cwS 3 hts (lw_S q443 q444 q78 q445) rfl rfl rfl pdJ4_checkIndex.2 ⟨(Nat.le_of_ble_eq_true rfl), (Nat.le_of_ble_eq_true rfl)⟩) (zp_S hK hN hP hD) rfl rfl hl.1 rfl (lv_room (Nat.le_of_ble_eq_true rfl)) dJ2_checkIndex_5 ⟨(Nat.le_of_ble_eq_true rfl), (Nat.le_of_ble_eq_true rfl)⟩) (fun r u H locs h hP hD hS => ?_)
    refine lv_pop hx hb dJ2_checkIndex_8 rfl ?_
    exact zr_v hx hb hr hlk hP hD hS () [] rfl (by decide) dJ2_checkIndex_9 h
  · refine va_gets hx hb hZ hS hown (hts _ q441) (fun _ h9 => h9) dJ2_checkIndex_2 ?_
    refine zc_i (wc := []) (wr := []) (w1 := fun _ : Unit => []) (rest := []) [] [] rfl rfl (by decide) (by decide) (by decide) hA hP hD hS (fun hP hD => va_runS (As := [.int i, .int n, .ref t]) (rest := []) ⟨hx, hb, hml, hown, hts⟩ (metJ4_checkIndex_r l D kk _ t i n (fun _ => Q) h) (va_cwS 3 hts (lw_S q443 q444 q78 q445) rfl rfl rfl pdJ4_checkIndex.2 ⟨(Nat.le_of_ble_eq_true rfl), (Nat.le_of_ble_eq_true rfl)⟩) (zp_S hK hN hP hD) rfl rfl hl.1 rfl (lv_room (Nat.le_of_ble_eq_true rfl)) dJ2_checkIndex_5 ⟨(Nat.le_of_ble_eq_true rfl), (Nat.le_of_ble_eq_true rfl)⟩) (fun r u H locs h hP hD hS => ?_)
    refine lv_pop hx hb dJ2_checkIndex_8 rfl ?_
    exact zr_v hx hb hr hlk hP hD hS () [] rfl (by decide) dJ2_checkIndex_9 h
def zCh (i : Nat) (k : Int32) : Int32 := (((zBs.getD i []).getD k.toNatClampNeg 0 &&& (255 : Int32)).toUInt32 % 65536).toInt32
def zChOk (i : Nat) (k : Int32) (Q : Int32 → Prop) : Prop := ¬ k < 0 ∧ k < Int32.ofNat (zLs.getD i 0) ∧ vp_in k (zLs.getD i 0) ∧ narrow .char (.int (zCh i k)) = .int (zCh i k) ∧ Q (zCh i k)
theorem metJ3_charAt (l : Launch) (htr : l.stackTraces = false) (D : va_G) (kk : Nat → ClassId) (sg : Nat → Nat) (sz : Nat) (i : Nat) (hi : i < 5) (k : Int32) (Q : Int32 → Prop) (h : zChOk i k Q) : Met l yJ3_charAt (ws_ yJ3_charAt cJ3_charAt 2 (some .char)) { frames := 2, cells := 0, slots := 0, locals := 60 } (va_Pc ([.ref (sg (5 + i)), .int k] : List Value) (zPF D kk sg [] sz)) (va_Qi (fun (r : Int32) (_ : Unit) => Q r) (zB D (va_A [] sz) (fun _ : Unit => [])) (va_A [] sz)) 0 0 (va_A [] sz) := by
  refine zMetF (Qc := fun A => va_Qi (fun (r : Int32) (_ : Unit) => Q r) (zB D A (fun _ : Unit => [])) A) htr (by decide) (Nat.le_of_ble_eq_true rfl) ?_
  intro p e s m below meth c A X hh hU hP hD hS ls hl
  obtain ⟨hx, hb, hr, hml, hown, hts, hlk, hnm, hK, hN, hA⟩ := X
  have hown : s.vm.findClass "java/lang/StringLatin1" = some m.cls := hown
  have hl : lv_has ls 2 [(0, .ref (sg (5 + i))), (1, .int k)] := hl
  obtain ⟨h1, h2, hin, hnar, h⟩ := h
  refine lv_iload_n hx hb dJ3_charAt_0 rfl (lv_at hl 1 rfl) ?_
  refine lv_aload_n hx hb dJ3_charAt_1 rfl (lv_at hl 0 rfl) ?_
  refine va_tlen hx hb (hU.2.2.2.2.1.1 i hi).2.2.2 hS rfl dJ3_charAt_2 ?_
  refine zc_v (wc := []) (wr := []) (w1 := fun _ : Unit => []) (rest := []) [] [] rfl rfl (by decide) (by decide) (by decide) hA hP hD hS (fun hP hD => va_runS (As := [.int k, .int (Int32.ofNat (zLs.getD i 0))]) (rest := []) ⟨hx, hb, hml, hown, hts⟩ (metJ2_checkIndex l htr D kk sg _ k (Int32.ofNat (zLs.getD i 0)) True ⟨h1, h2, trivial⟩) (va_cwS 2 hts (lw_S q438 q439 q76 q440) rfl rfl rfl pdJ2_checkIndex.2 ⟨(Nat.le_of_ble_eq_true rfl), (Nat.le_of_ble_eq_true rfl)⟩) (zpf_S hK hN hh.2.2.2.1 hU hA hS hh.2.2.2.2.2 hP hD) rfl rfl hl.1 rfl (lv_room (Nat.le_of_ble_eq_true rfl)) dJ3_charAt_3 ⟨(Nat.le_of_ble_eq_true rfl), (Nat.le_of_ble_eq_true rfl)⟩) (fun u H locs _ hP hD hS => ?_)
  refine lv_aload_n hx hb dJ3_charAt_6 rfl (lv_at hl 0 rfl) ?_
  refine lv_iload_n hx hb dJ3_charAt_7 rfl (lv_at hl 1 rfl) ?_
  refine va_tb hx hb (hU.2.2.2.2.1.1 i hi).2.2.2 hS hin rfl dJ3_charAt_8 ?_
  refine lv_sipush (v := (255 : Int32)) hx hb dJ3_charAt_9 (by decide) ?_
  refine lv_iand hx hb dJ3_charAt_12 ?_
  refine lv_i2c hx hb dJ3_charAt_13 rfl ?_
  exact zr_i hx hb hr hlk hnar hP hD hS () [] rfl (by decide) dJ3_charAt_14 h
theorem metJ2_charAt (l : Launch) (htr : l.stackTraces = false) (D : va_G) (kk : Nat → ClassId) (sg : Nat → Nat) (sz : Nat) (i : Nat) (hi : i < 5) (k : Int32) (Q : Int32 → Prop) (h : zChOk i k Q) : Met l yJ2_charAt (ws_ yJ2_charAt cJ2_charAt 2 (some .char)) { frames := 3, cells := 0, slots := 0, locals := 90 } (va_Pc ([.ref (sg i), .int k] : List Value) (zPF D kk sg [] sz)) (va_Qi (fun (r : Int32) (_ : Unit) => Q r) (zB D (va_A [] sz) (fun _ : Unit => [])) (va_A [] sz)) 0 0 (va_A [] sz) := by
  refine zMetF (Qc := fun A => va_Qi (fun (r : Int32) (_ : Unit) => Q r) (zB D A (fun _ : Unit => [])) A) htr (by decide) (Nat.le_of_ble_eq_true rfl) ?_
  intro p e s m below meth c A X hh hU hP hD hS ls hl
  obtain ⟨hx, hb, hr, hml, hown, hts, hlk, hnm, hK, hN, hA⟩ := X
  have hown : s.vm.findClass "java/lang/String" = some m.cls := hown
  have hl : lv_has ls 2 [(0, .ref (sg i)), (1, .int k)] := hl
  obtain ⟨h1, h2, hin, hnar, h⟩ := h
  refine lv_aload_n hx hb dJ2_charAt_0 rfl (lv_at hl 0 rfl) ?_
  have hrc := vk_recv hU.2.2.2.2.1 hi hS
  refine zc_i (wc := []) (wr := []) (w1 := fun _ : Unit => []) (rest := []) [] [] rfl rfl (by decide) (by decide) (by decide) hA hP hD hS (fun hP hD => va_runV (As := []) (rest := []) ⟨hx, hb, hml, hown, hts⟩ (metJ2_isLatin1 l htr D kk sg _ i hi (fun r => r = 1) rfl) (cwV 0 hts (lw_V q431 q432 q433 q76 q434) rfl rfl rfl pdJ2_isLatin1 ⟨(Nat.le_of_ble_eq_true rfl), (Nat.le_of_ble_eq_true rfl)⟩) (zpf_V hK hN hh.2.2.2.1 hU hA hS hh.2.2.2.2.2 hrc hP hD) rfl rfl hl.1 rfl (lv_room (Nat.le_of_ble_eq_true rfl)) dJ2_charAt_1 ⟨(Nat.le_of_ble_eq_true rfl), (Nat.le_of_ble_eq_true rfl)⟩) (fun r u H locs h9 hP hD hS => ?_)
  refine lv_if_eq (tgt := 16) hx hb dJ2_charAt_4 (by decide) (fun c1 => absurd (h9.symm.trans c1) (by decide)) (fun _ => ?_)
  refine lv_aload_n hx hb dJ2_charAt_7 rfl (lv_at hl 0 rfl) ?_
  refine vk_getf hx hb (hU.2.2.2.2.1.1 i hi).2.2.1 hS hown (hts _ q1325) (fun _ h9 => h9) dJ2_charAt_8 ?_
  refine lv_iload_n hx hb dJ2_charAt_11 rfl (lv_at hl 1 rfl) ?_
  refine zc_i (wc := []) (wr := []) (w1 := fun _ : Unit => []) (rest := []) [] [] rfl rfl (by decide) (by decide) (by decide) hA hP hD hS (fun hP hD => va_runS (As := [.ref (sg (5 + i)), .int k]) (rest := []) ⟨hx, hb, hml, hown, hts⟩ (metJ3_charAt l htr D kk sg _ i hi k (fun r => narrow .char (.int r) = .int r ∧ Q r) ⟨h1, h2, hin, hnar, hnar, h⟩) (va_cwS 2 hts (lw_S q435 q436 q77 q437) rfl rfl rfl pdJ3_charAt.2 ⟨(Nat.le_of_ble_eq_true rfl), (Nat.le_of_ble_eq_true rfl)⟩) (zpf_S hK hN hh.2.2.2.1 hU hA hS hh.2.2.2.2.2 hP hD) rfl rfl hl.1 rfl (lv_room (Nat.le_of_ble_eq_true rfl)) dJ2_charAt_12 ⟨(Nat.le_of_ble_eq_true rfl), (Nat.le_of_ble_eq_true rfl)⟩) (fun r u H locs h hP hD hS => ?_)
  exact zr_i hx hb hr hlk h.1 hP hD hS () [] rfl (by decide) dJ2_charAt_15 h.2
abbrev zF (x : Nat) (a b : Int32) : Nat × va_E := (x, .inr (9, [.null, .null, .null, .null, .null, .int 0, .int a, .int b]))
theorem z_rfn (k : Nat) (hk : k < 5) (o : Option Nat) : narrow (tyX9 k) (va_rf o) = va_rf o ∧ fits (tyX9 k) (va_rf o) = true := by
  have h : k = 0 ∨ k = 1 ∨ k = 2 ∨ k = 3 ∨ k = 4 := by omega
  rcases h with rfl | rfl | rfl | rfl | rfl <;> cases o <;> exact ⟨rfl, rfl⟩
theorem metJ0_init_2 (l : Launch) (htr : l.stackTraces = false) (D : va_G) (kk : Nat → ClassId) (sg : Nat → Nat) (sz : Nat) (x : Nat) : Met l yJ0_init_2 (ws_ yJ0_init_2 cJ0_init_2 5 none) { frames := 1, cells := 0, slots := 0, locals := 30 } (va_Pc ([.ref x, .null, .null, .int 0, .int 0] : List Value) (zPF D kk sg [zF x 0 0] sz)) (va_Qv (fun (_ : Unit) => True) (zB D (va_A [zF x 0 0] sz) (fun _ : Unit => [zF x 0 0])) (va_A [zF x 0 0] sz)) 0 0 (va_A [zF x 0 0] sz) := by
  refine zMetF (Qc := fun A => va_Qv (fun (_ : Unit) => True) (zB D A (fun _ : Unit => [zF x 0 0])) A) htr (by decide) (Nat.le_of_ble_eq_true rfl) ?_
  intro p e s m below meth c A X hh hU hP hD hS ls hl
  obtain ⟨hx, hb, hr, hml, hown, hts, hlk, hnm, hK, hN, hA⟩ := X
  have hown : s.vm.findClass "java/lang/Throwable" = some m.cls := hown
  have hl : lv_has ls 5 [(0, .ref x), (1, .null), (2, .null), (3, .int 0), (4, .int 0)] := hl
  refine lv_aload_n hx hb dJ0_init_2_0 rfl (lv_at hl 0 rfl) ?_
  refine W.objInit hx hb hown (hts _ q309) (hts _ q95) (hts _ q96) rfl (by rw [hml]; exact hl.1) rfl dJ0_init_2_1 (Nat.le_of_ble_eq_true rfl) (Nat.le_of_ble_eq_true rfl) ?_
  refine W.eq (g2 := F0 m 4 ls []) rfl ?_
  obtain ⟨o1, hZ1⟩ := z_zq hU.1
  obtain ⟨o2, hZ2⟩ := z_zq hU.2.1
  refine lv_aload_n hx hb dJ0_init_2_4 rfl (lv_at hl 0 rfl) ?_
  refine lv_aload_n hx hb dJ0_init_2_5 rfl (lv_at hl 0 rfl) ?_
  refine va_put (D := D) (ci := 9) (v := va_rf (some x)) (C := RX9) (T := TX9) (N := 8) hx hb hts in_X9 tyX9 tyX9_ok nmX9 hown hK hP hD hS 0 rfl rfl 0 (Nat.le_of_ble_eq_true rfl) (hts _ q355) (fun _ h9 => h9) rfl (tyX9_ok 0 (Nat.le_of_ble_eq_true rfl)) (z_rfn 0 (by decide) _).1 (z_rfn 0 (by decide) _).2 (Nat.le_of_ble_eq_true rfl) dJ0_init_2_6 (fun H locs hP hD hS => ?_)
  have hP : va_P D vwCl [(x, .inr (9, [.ref x, .null, .null, .null, .null, .int 0, .int 0, .int 0]))] H := hP
  have hD : va_D A [(x, .inr (9, [.ref x, .null, .null, .null, .null, .int 0, .int 0, .int 0]))] := hD
  refine lv_aload_n hx hb dJ0_init_2_9 rfl (lv_at hl 0 rfl) ?_
  refine va_gets hx hb hZ1 hS hown (hts _ q310) (fun _ h9 => h9) dJ0_init_2_10 ?_
  refine va_put (D := D) (ci := 9) (v := va_rf o1) (C := RX9) (T := TX9) (N := 8) hx hb hts in_X9 tyX9 tyX9_ok nmX9 hown hK hP hD hS 0 rfl rfl 1 (Nat.le_of_ble_eq_true rfl) (hts _ q356) (fun _ h9 => h9) rfl (tyX9_ok 1 (Nat.le_of_ble_eq_true rfl)) (z_rfn 1 (by decide) _).1 (z_rfn 1 (by decide) _).2 (Nat.le_of_ble_eq_true rfl) dJ0_init_2_13 (fun H locs hP hD hS => ?_)
  have hP : va_P D vwCl [(x, .inr (9, [.ref x, va_rf o1, .null, .null, .null, .int 0, .int 0, .int 0]))] H := hP
  have hD : va_D A [(x, .inr (9, [.ref x, va_rf o1, .null, .null, .null, .int 0, .int 0, .int 0]))] := hD
  refine lv_aload_n hx hb dJ0_init_2_16 rfl (lv_at hl 0 rfl) ?_
  refine va_gets hx hb hZ2 hS hown (hts _ q312) (fun _ h9 => h9) dJ0_init_2_17 ?_
  refine va_put (D := D) (ci := 9) (v := va_rf o2) (C := RX9) (T := TX9) (N := 8) hx hb hts in_X9 tyX9 tyX9_ok nmX9 hown hK hP hD hS 0 rfl rfl 2 (Nat.le_of_ble_eq_true rfl) (hts _ q357) (fun _ h9 => h9) rfl (tyX9_ok 2 (Nat.le_of_ble_eq_true rfl)) (z_rfn 2 (by decide) _).1 (z_rfn 2 (by decide) _).2 (Nat.le_of_ble_eq_true rfl) dJ0_init_2_20 (fun H locs hP hD hS => ?_)
  have hP : va_P D vwCl [(x, .inr (9, [.ref x, va_rf o1, va_rf o2, .null, .null, .int 0, .int 0, .int 0]))] H := hP
  have hD : va_D A [(x, .inr (9, [.ref x, va_rf o1, va_rf o2, .null, .null, .int 0, .int 0, .int 0]))] := hD
  refine lv_iload hx hb dJ0_init_2_23 (lv_at hl 4 rfl) ?_
  refine lv_if_eq (tgt := 36) hx hb dJ0_init_2_25 (by decide) (fun _ => ?_) (fun c1 => absurd rfl c1)
  refine lv_aload_n hx hb dJ0_init_2_36 rfl (lv_at hl 0 rfl) ?_
  refine lv_null hx hb dJ0_init_2_37 ?_
  refine va_put (D := D) (ci := 9) (v := va_rf none) (C := RX9) (T := TX9) (N := 8) hx hb hts in_X9 tyX9 tyX9_ok nmX9 hown hK hP hD hS 0 rfl rfl 1 (Nat.le_of_ble_eq_true rfl) (hts _ q356) (fun _ h9 => h9) rfl (tyX9_ok 1 (Nat.le_of_ble_eq_true rfl)) (z_rfn 1 (by decide) _).1 (z_rfn 1 (by decide) _).2 (Nat.le_of_ble_eq_true rfl) dJ0_init_2_38 (fun H locs hP hD hS => ?_)
  have hP : va_P D vwCl [(x, .inr (9, [.ref x, .null, va_rf o2, .null, .null, .int 0, .int 0, .int 0]))] H := hP
  have hD : va_D A [(x, .inr (9, [.ref x, .null, va_rf o2, .null, .null, .int 0, .int 0, .int 0]))] := hD
  refine lv_aload_n hx hb dJ0_init_2_41 rfl (lv_at hl 0 rfl) ?_
  refine lv_aload_nN hx hb dJ0_init_2_42 rfl (lv_at hl 1 rfl) ?_
  refine va_put (D := D) (ci := 9) (v := va_rf none) (C := RX9) (T := TX9) (N := 8) hx hb hts in_X9 tyX9 tyX9_ok nmX9 hown hK hP hD hS 0 rfl rfl 3 (Nat.le_of_ble_eq_true rfl) (hts _ q354) (fun _ h9 => h9) rfl (tyX9_ok 3 (Nat.le_of_ble_eq_true rfl)) (z_rfn 3 (by decide) _).1 (z_rfn 3 (by decide) _).2 (Nat.le_of_ble_eq_true rfl) dJ0_init_2_43 (fun H locs hP hD hS => ?_)
  have hP : va_P D vwCl [(x, .inr (9, [.ref x, .null, va_rf o2, .null, .null, .int 0, .int 0, .int 0]))] H := hP
  have hD : va_D A [(x, .inr (9, [.ref x, .null, va_rf o2, .null, .null, .int 0, .int 0, .int 0]))] := hD
  refine lv_aload_n hx hb dJ0_init_2_46 rfl (lv_at hl 0 rfl) ?_
  refine lv_aload_nN hx hb dJ0_init_2_47 rfl (lv_at hl 2 rfl) ?_
  refine va_put (D := D) (ci := 9) (v := va_rf none) (C := RX9) (T := TX9) (N := 8) hx hb hts in_X9 tyX9 tyX9_ok nmX9 hown hK hP hD hS 0 rfl rfl 0 (Nat.le_of_ble_eq_true rfl) (hts _ q355) (fun _ h9 => h9) rfl (tyX9_ok 0 (Nat.le_of_ble_eq_true rfl)) (z_rfn 0 (by decide) _).1 (z_rfn 0 (by decide) _).2 (Nat.le_of_ble_eq_true rfl) dJ0_init_2_48 (fun H locs hP hD hS => ?_)
  have hP : va_P D vwCl [(x, .inr (9, [.null, .null, va_rf o2, .null, .null, .int 0, .int 0, .int 0]))] H := hP
  have hD : va_D A [(x, .inr (9, [.null, .null, va_rf o2, .null, .null, .int 0, .int 0, .int 0]))] := hD
  refine lv_iload_n hx hb dJ0_init_2_51 rfl (lv_at hl 3 rfl) ?_
  refine lv_if_ne (tgt := 60) hx hb dJ0_init_2_52 (by decide) (fun c1 => absurd rfl c1) (fun _ => ?_)
  refine lv_aload_n hx hb dJ0_init_2_55 rfl (lv_at hl 0 rfl) ?_
  refine lv_null hx hb dJ0_init_2_56 ?_
  refine va_put (D := D) (ci := 9) (v := va_rf none) (C := RX9) (T := TX9) (N := 8) hx hb hts in_X9 tyX9 tyX9_ok nmX9 hown hK hP hD hS 0 rfl rfl 2 (Nat.le_of_ble_eq_true rfl) (hts _ q357) (fun _ h9 => h9) rfl (tyX9_ok 2 (Nat.le_of_ble_eq_true rfl)) (z_rfn 2 (by decide) _).1 (z_rfn 2 (by decide) _).2 (Nat.le_of_ble_eq_true rfl) dJ0_init_2_57 (fun H locs hP hD hS => ?_)
  have hP : va_P D vwCl [(x, .inr (9, [.null, .null, .null, .null, .null, .int 0, .int 0, .int 0]))] H := hP
  have hD : va_D A [(x, .inr (9, [.null, .null, .null, .null, .null, .int 0, .int 0, .int 0]))] := hD
  exact zr_v hx hb hr hlk hP hD hS () [0] rfl (by decide) dJ0_init_2_60 trivial
theorem metJ1_init (l : Launch) (htr : l.stackTraces = false) (D : va_G) (kk : Nat → ClassId) (sg : Nat → Nat) (sz : Nat) (x : Nat) : Met l yJ1_init (ws_ yJ1_init cJ1_init 5 none) { frames := 2, cells := 0, slots := 0, locals := 60 } (va_Pc ([.ref x, .null, .null, .int 0, .int 0] : List Value) (zPF D kk sg [zF x 0 0] sz)) (va_Qv (fun (_ : Unit) => True) (zB D (va_A [zF x 0 0] sz) (fun _ : Unit => [zF x 0 0])) (va_A [zF x 0 0] sz)) 0 0 (va_A [zF x 0 0] sz) := by
  refine zMetF (Qc := fun A => va_Qv (fun (_ : Unit) => True) (zB D A (fun _ : Unit => [zF x 0 0])) A) htr (by decide) (Nat.le_of_ble_eq_true rfl) ?_
  intro p e s m below meth c A X hh hU hP hD hS ls hl
  obtain ⟨hx, hb, hr, hml, hown, hts, hlk, hnm, hK, hN, hA⟩ := X
  have hown : s.vm.findClass "java/lang/Exception" = some m.cls := hown
  have hl : lv_has ls 5 [(0, .ref x), (1, .null), (2, .null), (3, .int 0), (4, .int 0)] := hl
  refine lv_aload_n hx hb dJ1_init_0 rfl (lv_at hl 0 rfl) ?_
  refine lv_aload_nN hx hb dJ1_init_1 rfl (lv_at hl 1 rfl) ?_
  refine lv_aload_nN hx hb dJ1_init_2 rfl (lv_at hl 2 rfl) ?_
  refine lv_iload_n hx hb dJ1_init_3 rfl (lv_at hl 3 rfl) ?_
  refine lv_iload hx hb dJ1_init_4 (lv_at hl 4 rfl) ?_
  refine zc_v (wc := [zF x 0 0]) (wr := []) (w1 := fun _ : Unit => [zF x 0 0]) (rest := []) [0] [] rfl rfl (by decide) (by decide) (by decide) hA hP hD hS (fun hP hD => va_runI (As := [.null, .null, .int 0, .int 0]) (rest := []) ⟨hx, hb, hml, hown, hts⟩ (metJ0_init_2 l htr D kk sg _ x) (cwI 4 hts (lw_meth q348) rfl rfl rfl (hts _ q73) (hts _ q346) (hts _ q347) rfl pdJ0_init_2.2 ⟨(Nat.le_of_ble_eq_true rfl), (Nat.le_of_ble_eq_true rfl)⟩) (zpf_S hK hN hh.2.2.2.1 hU hA hS hh.2.2.2.2.2 hP hD) rfl rfl hl.1 rfl (lv_room (Nat.le_of_ble_eq_true rfl)) dJ1_init_6 ⟨(Nat.le_of_ble_eq_true rfl), (Nat.le_of_ble_eq_true rfl)⟩) (fun u H locs _ hP hD hS => ?_)
  exact zr_v hx hb hr hlk hP hD hS () [0] rfl (by decide) dJ1_init_9 trivial
theorem metX9_init (l : Launch) (htr : l.stackTraces = false) (D : va_G) (kk : Nat → ClassId) (sg : Nat → Nat) (sz : Nat) (x : Nat) (p1 p2 : Int32) : Met l yX9_init (ws_ yX9_init cX9_init 3 none) { frames := 3, cells := 0, slots := 0, locals := 90 } (va_Pc ([.ref x, .int p1, .int p2] : List Value) (zPF D kk sg [zF x 0 0] sz)) (va_Qv (fun (_ : Unit) => True) (zB D (va_A [zF x 0 0] sz) (fun _ : Unit => [zF x p1 p2])) (va_A [zF x 0 0] sz)) 0 0 (va_A [zF x 0 0] sz) := by
  refine zMetF (Qc := fun A => va_Qv (fun (_ : Unit) => True) (zB D A (fun _ : Unit => [zF x p1 p2])) A) htr (by decide) (Nat.le_of_ble_eq_true rfl) ?_
  intro p e s m below meth c A X hh hU hP hD hS ls hl
  obtain ⟨hx, hb, hr, hml, hown, hts, hlk, hnm, hK, hN, hA⟩ := X
  have hown : s.vm.findClass "LoseLeague$Fault" = some m.cls := hown
  have hl : lv_has ls 3 [(0, .ref x), (1, .int p1), (2, .int p2)] := hl
  refine lv_aload_n hx hb dX9_init_0 rfl (lv_at hl 0 rfl) ?_
  refine lv_null hx hb dX9_init_1 ?_
  refine lv_null hx hb dX9_init_2 ?_
  refine lv_iconst (v := (0 : Int32)) hx hb dX9_init_3 (by decide) ?_
  refine lv_iconst (v := (0 : Int32)) hx hb dX9_init_4 (by decide) ?_
  refine zc_v (wc := [zF x 0 0]) (wr := []) (w1 := fun _ : Unit => [zF x 0 0]) (rest := []) [0] [] rfl rfl (by decide) (by decide) (by decide) hA hP hD hS (fun hP hD => va_runI (As := [.null, .null, .int 0, .int 0]) (rest := []) ⟨hx, hb, hml, hown, hts⟩ (metJ1_init l htr D kk sg _ x) (cwI 4 hts (lw_meth q345) rfl rfl rfl (hts _ q74) (hts _ q343) (hts _ q344) rfl pdJ1_init.2 ⟨(Nat.le_of_ble_eq_true rfl), (Nat.le_of_ble_eq_true rfl)⟩) (zpf_S hK hN hh.2.2.2.1 hU hA hS hh.2.2.2.2.2 hP hD) rfl rfl hl.1 rfl (lv_room (Nat.le_of_ble_eq_true rfl)) dX9_init_5 ⟨(Nat.le_of_ble_eq_true rfl), (Nat.le_of_ble_eq_true rfl)⟩) (fun u H locs _ hP hD hS => ?_)
  refine lv_aload_n hx hb dX9_init_8 rfl (lv_at hl 0 rfl) ?_
  refine lv_iload_n hx hb dX9_init_9 rfl (lv_at hl 1 rfl) ?_
  refine va_putF (D := D) (ci := 9) (v := .int p1) (C := RX9) (T := TX9) (N := 8) hx hb hts in_X9 tyX9 tyX9_ok nmX9 hown hK hP hD hS 0 rfl rfl 6 (Nat.le_of_ble_eq_true rfl) (hts _ q349) (fun _ h9 => h9) rfl hnm rfl (tyX9_ok 6 (Nat.le_of_ble_eq_true rfl)) rfl rfl (Nat.le_of_ble_eq_true rfl) dX9_init_10 (fun H locs hP hD hS => ?_)
  have hP : va_P D vwCl [(x, .inr (9, [.null, .null, .null, .null, .null, .int 0, .int p1, .int 0]))] H := hP
  have hD : va_D A [(x, .inr (9, [.null, .null, .null, .null, .null, .int 0, .int p1, .int 0]))] := hD
  refine lv_aload_n hx hb dX9_init_13 rfl (lv_at hl 0 rfl) ?_
  refine lv_iload_n hx hb dX9_init_14 rfl (lv_at hl 2 rfl) ?_
  refine va_putF (D := D) (ci := 9) (v := .int p2) (C := RX9) (T := TX9) (N := 8) hx hb hts in_X9 tyX9 tyX9_ok nmX9 hown hK hP hD hS 0 rfl rfl 7 (Nat.le_of_ble_eq_true rfl) (hts _ q351) (fun _ h9 => h9) rfl hnm rfl (tyX9_ok 7 (Nat.le_of_ble_eq_true rfl)) rfl rfl (Nat.le_of_ble_eq_true rfl) dX9_init_15 (fun H locs hP hD hS => ?_)
  have hP : va_P D vwCl [zF x p1 p2] H := hP
  have hD : va_D A [zF x p1 p2] := hD
  exact zr_v hx hb hr hlk hP hD hS () [0] rfl (by decide) dX9_init_18 trivial
