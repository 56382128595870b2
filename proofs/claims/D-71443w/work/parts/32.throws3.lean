/-! THROWS 3: the W rows of contracts that may throw -/
set_option maxRecDepth 100000
/-- how such a contract ends: an answer (emb r) with the world w1 u, or a throw of x, an object of the class CX x u, with the world wT x u -/
def zBT {ST : Type} (D : va_G) (A : Nat → Prop) (wT : Nat → ST → va_W) (CX : ST → String) (x : Nat) (u : ST) (t : State) : Prop :=
  va_P D vwCl (wT x u) t.heap ∧ va_D A (wT x u) ∧ ∃ cell : Cell, t.heap[x]? = some cell ∧ cell.vm.isStatics = false ∧ t.vm.findClass (CX u) = some cell.cls
def zQX {ρ S ST : Type} (emb : ρ → Option Value) (post : ρ → S → Prop) (B : S → State → Prop) (postT : ST → Prop) (BT : Nat → ST → State → Prop) (A : Nat → Prop) : Array Value → State → Outcome → State → Prop := fun _ st oc t =>
  ((∃ (r : ρ) (u : S), oc = .returned (emb r) ∧ post r u ∧ B u t) ∨ (∃ (x : Nat) (u : ST), oc = .threw x ∧ postT u ∧ BT x u t)) ∧ va_F A st t
section ZX3
variable {p : Program} {l : Launch} {e : Env} {R : Room} {s : State} {m : MethodId} {args : Array Value} {below : List Frame} {meth : Method} {c : Code} {H : Heap} {locs : List Loc} {cells slots : Nat} {Q : State → Prop}
variable {cc : ByteArray} {pc : Nat} {ls : Array Slot} {rest st0 : List Value} {a : Array Value} {D : va_G} {A : Nat → Prop} {ws wc wr : va_W} {ρ S ST : Type} {emb : ρ → Option Value} {w1 : S → va_W} {wT : Nat → ST → va_W} {CX : ST → String} {mc ms : Nat}
def zRunX (p : Program) (l : Launch) (e : Env) (R : Room) (s : State) (m : MethodId) (args : Array Value) (below : List Frame) (meth : Method) (c : Code) (H : Heap) (locs : List Loc) (cells slots mc ms : Nat) (g : JFrame) (rest : List Value) (Qa : State → Outcome → State → Prop) (free : Addr → Prop) : Prop :=
  ∀ T : State, T.heap = H → Stand p l e R s m args below meth c T locs cells slots → ∃ (T' st₀ t : State) (L : List Loc), st₀.heap = H ∧ Stand p l e R s m args below meth c T' (locs ++ L) (cells + mc) (slots + ms) ∧ (∀ q ∈ L, free q.base) ∧ T'.heap = t.heap ∧ s.vm.Alike t.vm ∧
    ((∃ v, Qa st₀ (.returned v) t ∧ ∀ target, Steps p.tables e below (T'.setTop { g with pc := g.pc + 3, stack := v.toList ++ rest }) target → Steps p.tables e below (T.setTop g) target) ∨
     (∃ x, Qa st₀ (.threw x) t ∧ ∀ target, Steps p.tables e below ((T'.setTop { g with stack := rest }).pushFrame (.throwing x)) target → Steps p.tables e below (T.setTop g) target))
theorem zx_runV {y : MethodName} {w : Cond} {bytes : ByteArray} {maxL nL index : Nat} {ret : Option FieldType} {hh : List (Nat × Nat × Nat × Nat)} {rm : Room} {Pc : Array Value → State → Prop} {Qc : Array Value → State → Outcome → State → Prop} {free : Addr → Prop} {own C : String} {b : Addr} {As : List Value} {g : JFrame}
    (n : Nat) (S0 : CallFix p m c cc nL s args lw_all own) (hM : MetX l y (w :: lw_all) rm Pc Qc mc ms free) (hw : zCode y bytes maxL ret hh w) (hwin : w ∈ lw_all) (hrc : rm.cells = mc) (hrs : rm.slots = ms) (hR : rm.frames + 1 ≤ R.frames ∧ 8 + (maxL + 11) + rm.locals ≤ R.locals)
    (w1 : Cond.methodLink own index y ∈ lw_all) (w2 : Cond.instanceMethod y ∈ lw_all) (w3 : Cond.selects C y y ∈ lw_all) (w4 : Cond.initialized y.cls ∈ lw_all)
    (hd : y.cls = C ∧ y.cls ≠ "java/lang/invoke/MethodHandle" ∧ y.cls ≠ "java/lang/invoke/VarHandle" ∧ (parseMethodDescriptor y.desc).map (fun d => d.parameters.length) = some n)
    (hp : PreV s H C b Pc As) (hg : g.method = m) (hn : As.length = n) (hsize : g.locals.size = nL) (hstack : g.stack = As.reverse ++ .ref b :: rest) (hW : 2 * g.monitorRoom + (rest.map fun v => v.category).sum ≤ 8) (hdg : decode cc g.pc = .ok (.invokevirtual index, 3)) (hf : cells + mc ≤ R.cells ∧ slots + ms ≤ R.slots) :
    zRunX p l e R s m args below meth c H locs cells slots mc ms g rest (Qc (Value.ref b :: As).toArray) free := by
  obtain ⟨hx, hb, hml, ho, hts⟩ := S0
  obtain ⟨hbl, ⟨cellB, hcB, hoB, hclB⟩, hPc⟩ := hp
  obtain ⟨hC, hy, hlen⟩ := hd
  subst hC
  have hG : GoodIn lw_all (w :: lw_all) := by
    intro z hz
    rcases List.mem_cons.mp hz with e | e
    · rw [e]; exact lw_self _ hwin
    · exact lw_self _ e
  intro T hT X
  obtain ⟨mk, methM, hnamed, hmethM, hstM, habM⟩ := Cond.instanceMethod_spec (hts _ w2)
  obtain ⟨c2, r2, m2, q1, q2, q3, q4, kP, hkP, hkPi⟩ := Cond.selects_spec (hts _ w3)
  cases hclB.symm.trans q1
  cases (State.methodFound?_of_named hnamed ⟨hy, hlen.1⟩).symm.trans q2
  cases hnamed.symm.trans q3
  have hselP : selectMethod e.platform s.vm cellB.cls mk = .method mk := by rw [Launch.admits_selectMethod X.admits]; exact q4
  have hsig : parseMethodDescriptor y.desc = some methM.sig := by
    rcases hw with ⟨rfl, -⟩ | rfl
    · obtain ⟨methM', cM, hmethM', -, -, -, -, -, -, hsigM⟩ := Cond.code_spec hnamed (hts _ hwin)
      cases hmethM.symm.trans hmethM'
      exact hsigM
    · obtain ⟨m9, methM', cM, hn9, hmethM', -, -, -, -, -, -, hsigM⟩ := Cond.codeWith_spec (hts _ hwin)
      cases hnamed.symm.trans hn9
      cases hmethM.symm.trans hmethM'
      exact hsigM
  have hlen2 : As.length = methM.sig.parameters.length := by
    have h2 := hlen.2
    rw [hsig] at h2
    exact hn.trans (Option.some.inj h2).symm
  obtain ⟨vm₁, X₁, hstep₁⟩ := X.invokevirtual hx ho (hts _ w1) hnamed hmethM hstM hkP hkPi ⟨hy, hlen.1⟩ (a := b) (cell := cellB) (by rw [hT]; exact hcB)
    (fun z h => by rw [h] at hoB; cases hoB) hselP hmethM habM hkP hkPi (g := g) hg (argsL := As) (rest := rest) hlen2 hstack (by rw [hb]; exact hdg)
  obtain ⟨t, hst, hh⟩ := z_callX hM hw List.mem_cons_self hbl hrc hrs hR (pay_in hts hG) (hts _ w4) X₁ (g := { g with stack := rest }) hg (hsize.trans hml.symm) (by rw [hb]; exact hdg) hW (X₁.named hnamed) hf (hPc (T.setVm vm₁) hT X₁.warmed)
  have hgo : ∀ target, Steps p.tables e below t target → Steps p.tables e below (T.setTop g) target := fun target h => hstep₁ _ fun acts => by rw [doInvoke_state]; exact hst.trans h
  rcases hh with ⟨v, T', L, X', hH, hL, hq, ht⟩ | ⟨x, T', L, X', hH, hL, hq, ht⟩
  · refine ⟨T', (T.setVm vm₁).calling { g with stack := rest } mk (Value.ref b :: As).toArray, t, L, hT, X', hL, hH, by rw [ht]; exact X'.warmed.alike, Or.inl ⟨v, hq, fun target h => hgo target (by rw [ht]; exact h)⟩⟩
  · refine ⟨T', (T.setVm vm₁).calling { g with stack := rest } mk (Value.ref b :: As).toArray, t, L, hT, X', hL, hH, by rw [ht, Stand.throwing_vm]; exact X'.warmed.alike, Or.inr ⟨x, hq, fun target h => hgo target (by rw [ht]; exact h)⟩⟩
theorem zx_runI {y : MethodName} {w : Cond} {bytes : ByteArray} {maxL nL index : Nat} {hh : List (Nat × Nat × Nat × Nat)} {rm : Room} {Pc : Array Value → State → Prop} {Qc : Array Value → State → Outcome → State → Prop} {free : Addr → Prop} {own : String} {b : Addr} {As : List Value} {g : JFrame}
    (n : Nat) (S0 : CallFix p m c cc nL s args lw_all own) (hM : MetX l y (w :: lw_all) rm Pc Qc mc ms free) (hw : w = Cond.code y bytes maxL none) (hwin : w ∈ lw_all) (hrc : rm.cells = mc) (hrs : rm.slots = ms) (hR : rm.frames + 1 ≤ R.frames ∧ 8 + (maxL + 11) + rm.locals ≤ R.locals)
    (w1 : Cond.methodLink own index y ∈ lw_all) (w2 : Cond.instanceMethod y ∈ lw_all) (w4 : Cond.initialized y.cls ∈ lw_all) (hy1 : y.name = "<init>")
    (hd : y.cls ≠ "java/lang/invoke/MethodHandle" ∧ y.cls ≠ "java/lang/invoke/VarHandle" ∧ (parseMethodDescriptor y.desc).map (fun d => d.parameters.length) = some n)
    (hp : PreS s H Pc (.ref b :: As)) (hg : g.method = m) (hn : As.length = n) (hsize : g.locals.size = nL) (hstack : g.stack = As.reverse ++ .ref b :: rest) (hW : 2 * g.monitorRoom + (rest.map fun v => v.category).sum ≤ 8) (hdg : decode cc g.pc = .ok (.invokespecial index, 3)) (hf : cells + mc ≤ R.cells ∧ slots + ms ≤ R.slots) :
    zRunX p l e R s m args below meth c H locs cells slots mc ms g rest (Qc (Value.ref b :: As).toArray) free := by
  obtain ⟨hx, hb, hml, ho, hts⟩ := S0
  obtain ⟨hbl, hPc⟩ := hp
  have hG : GoodIn lw_all (w :: lw_all) := by
    intro z hz
    rcases List.mem_cons.mp hz with e | e
    · rw [e]; exact lw_self _ hwin
    · exact lw_self _ e
  subst hg
  intro T hT X
  have hpl : e.platform.magicAccessors = ({} : Platform).magicAccessors := by rw [X.admits.platform]
  have hlen2 : ∀ sig, parseMethodDescriptor y.desc = some sig → As.length = sig.parameters.length := fun sig h => by
    have h2 := hd.2.2
    rw [h] at h2
    exact hn.trans (Option.some.inj h2).symm
  have hcode := hts _ hwin
  rw [hw] at hcode
  obtain ⟨mk, methM, cM, kP, vm₁, hnamed, hmethM, hcodeM, -, hlocalsM, -, hkP, -, hW₁, hstep₁⟩ := Steps.initColdArgs (e := e) X.here hx X.warmed hpl ho hy1 ⟨hd.1, hd.2.1⟩ (hts _ w1) (hts _ w2) hcode (f := g) rfl hlen2 hstack (by rw [hb]; exact hdg)
  have X₁ := X.noted hW₁
  obtain ⟨t, hst, hh⟩ := z_callX hM (hh := []) (Or.inl ⟨hw, rfl⟩) List.mem_cons_self hbl hrc hrs hR (pay_in hts hG) (hts _ w4) X₁ (g := { g with stack := rest }) rfl (hsize.trans hml.symm) (by rw [hb]; exact hdg) hW (X₁.named hnamed) hf (hPc (T.setVm vm₁) hT X₁.warmed)
  have hgo : ∀ target, Steps p.tables e below t target → Steps p.tables e below (T.setTop g) target := fun target h => hstep₁ _ fun acts => by rw [doInvoke_state]; exact hst.trans h
  rcases hh with ⟨v, T', L, X', hH, hL, hq, ht⟩ | ⟨x, T', L, X', hH, hL, hq, ht⟩
  · refine ⟨T', (T.setVm vm₁).calling { g with stack := rest } mk (Value.ref b :: As).toArray, t, L, hT, X', hL, hH, by rw [ht]; exact X'.warmed.alike, Or.inl ⟨v, hq, fun target h => hgo target (by rw [ht]; exact h)⟩⟩
  · refine ⟨T', (T.setVm vm₁).calling { g with stack := rest } mk (Value.ref b :: As).toArray, t, L, hT, X', hL, hH, by rw [ht, Stand.throwing_vm]; exact X'.warmed.alike, Or.inr ⟨x, hq, fun target h => hgo target (by rw [ht]; exact h)⟩⟩
/-- the call of a contract that may throw, in one row -/
theorem zx_c {post : ρ → S → Prop} {postT : ST → Prop} (isC isR : List Nat) (hC : isC.map (fun i => ws[i]?) = wc.map some) (hR : isR.map (fun i => ws[i]?) = wr.map some) (hn : va_nd isR = true) (hnc : va_nd isC = true) (hdis : ∀ i ∈ isR, i ∉ isC) (hA : ∀ q : Nat, s.heap.size ≤ q → A q) (hP : va_P D vwCl ws H) (hD : va_D A ws) (hS : va_S A s.heap H locs)
    (hr : va_P D vwCl wc H → va_D A wc → zRunX p l e R s m args below meth c H locs cells slots mc ms (F0 m pc ls st0) rest (zQX emb post (zB D (va_A wc H.size) w1) postT (zBT D (va_A wc H.size) wT CX) (va_A wc H.size) a) (va_A wc H.size))
    (kk : ∀ (r : ρ) (u : S) (H1 : Heap) (locs1 : List Loc), post r u → va_P D vwCl (wr ++ w1 u) H1 → va_D A (wr ++ w1 u) → va_S A s.heap H1 locs1 → W p l e R s m args below meth c H1 locs1 (cells + mc) (slots + ms) Q (F0 m (pc + 3) ls ((emb r).toList ++ rest)))
    (kt : ∀ (x : Nat) (u : ST) (H1 : Heap) (locs1 : List Loc), postT u → va_P D vwCl (wr ++ wT x u) H1 → va_D A (wr ++ wT x u) → va_S A s.heap H1 locs1 → (∃ cell : Cell, H1[x]? = some cell ∧ cell.vm.isStatics = false ∧ s.vm.findClass (CX u) = some cell.cls) → WT p l e R s m args below meth c H1 locs1 (cells + mc) (slots + ms) Q (F0 m pc ls rest) x) :
    W p l e R s m args below meth c H locs cells slots Q (F0 m pc ls st0) := by
  have hs2 : isC.filterMap (fun i => ws[i]?) = wc := by
    have h1 : isC.filterMap (fun i => ws[i]?) = (isC.map (fun i => ws[i]?)).filterMap id := by rw [List.filterMap_map]; rfl
    rw [h1, hC, List.filterMap_map]
    simp
  have hFc := va_free (wc := wc) hD hS hA isC hC
  intro T hT X
  obtain ⟨T', st₀, t, L, h0, X', hL, hH, hal, hh⟩ := hr (hP.sub isC hs2) (hD.sub isC hnc hC) T hT X
  have hS1 : va_F (va_A wc H.size) st₀ t → va_S A s.heap t.heap (locs ++ L) := by
    rintro ⟨hz, hk⟩
    rw [h0] at hz hk
    refine ⟨Nat.le_trans hS.1 hz, fun q h1 h2 => ?_, fun q hq => ?_⟩
    · rw [hk q (Nat.lt_of_lt_of_le h1 hS.1) (fun z => h2 (hFc q z))]
      exact hS.2.1 q h1 h2
    · rcases List.mem_append.mp hq with h | h
      · exact hS.2.2 q h
      · exact hFc _ (hL q h)
  rcases hh with ⟨v, ⟨hq, hF⟩, hgo⟩ | ⟨x, ⟨hq, hF⟩, hgo⟩
  · rcases hq with ⟨r, u, hv, hp, hP1, hD1⟩ | ⟨x, u, hv, -⟩
    · cases hv
      obtain ⟨hP2, hD2⟩ := va_join hP hD isC isR hC hR hn hdis (fun q h1 h2 => by have := hF.2 q (by rw [h0]; exact h1) h2; rw [h0] at this; exact this) hFc hP1 hD1
      obtain ⟨t2, a1, b1⟩ := kk r u t.heap (locs ++ L) hp hP2 hD2 (hS1 hF) T' hH X'
      exact ⟨t2, hgo t2 a1, b1⟩
    · cases hv
  · rcases hq with ⟨r, u, hv, -⟩ | ⟨x', u, hv, hp, hP1, hD1, cell, hc1, hc2, hc3⟩
    · cases hv
    · cases hv
      obtain ⟨hP2, hD2⟩ := va_join hP hD isC isR hC hR hn hdis (fun q h1 h2 => by have := hF.2 q (by rw [h0]; exact h1) h2; rw [h0] at this; exact this) hFc hP1 hD1
      obtain ⟨t2, a1, b1⟩ := kt _ u t.heap (locs ++ L) hp hP2 hD2 (hS1 hF) ⟨cell, hc1, hc2, by rw [← hal.findClass]; exact hc3⟩ T' hH X'
      exact ⟨t2, hgo t2 a1, b1⟩
/-- ends of such a contract -/
theorem zx_thr {post : ρ → S → Prop} {B : S → State → Prop} {postT : ST → Prop} {x : Nat} {st : List Value} (hlk : meth.locks = false) (hout : ∀ y ∈ c.exceptionTable.toList, covers y pc = false) (hP : va_P D vwCl ws H) (hD : va_D A ws) (hS : va_S A s.heap H locs) (u : ST) (is : List Nat) (hs : is.map (fun i => ws[i]?) = (wT x u).map some) (hnd : va_nd is = true)
    (hc : ∃ cell : Cell, H[x]? = some cell ∧ cell.vm.isStatics = false ∧ s.vm.findClass (CX u) = some cell.cls) (h : postT u) :
    WT p l e R s m args below meth c H locs cells slots (MT below (zQX emb post B postT (zBT D A wT CX) A) args s cells slots A) (F0 m pc ls st) x := by
  have hs2 : is.filterMap (fun i => ws[i]?) = wT x u := by
    have h1 : is.filterMap (fun i => ws[i]?) = (is.map (fun i => ws[i]?)).filterMap id := by rw [List.filterMap_map]; rfl
    rw [h1, hs, List.filterMap_map]
    simp
  obtain ⟨cell, h1, h2, h3⟩ := hc
  refine z_leave hlk hout (fun t ht hW => ⟨Or.inr ⟨x, u, rfl, h, by rw [ht]; exact hP.sub is hs2, hD.sub is hnd hs, cell, by rw [ht]; exact h1, h2, by rw [hW.alike.findClass]; exact h3⟩, hS.F ht⟩) hS.2.2
theorem zx_i {post : Int32 → S → Prop} {BT : Nat → ST → State → Prop} {postT : ST → Prop} {v : Int32} {ty : FieldType} (hx : p.tables.exec = Jvm.exec) (hb : c.code = cc) (hr : meth.sig.returnType = some ty) (hlk : meth.locks = false) (hn : narrow ty (.int v) = .int v) (hP : va_P D vwCl ws H) (hD : va_D A ws) (hS : va_S A s.heap H locs) (u : S) (is : List Nat) (hs : is.map (fun i => ws[i]?) = (w1 u).map some) (hnd : va_nd is = true) (hd : decode cc pc = .ok (.ireturn, 1)) (h : post v u) :
    W p l e R s m args below meth c H locs cells slots (MT below (zQX (fun r : Int32 => some (.int r)) post (zB D A w1) postT BT A) args s cells slots A) (F0 m pc ls [.int v]) :=
  W.mono (MQ_MT fun o t hq => by
    obtain ⟨⟨r, u, h1, h2, h3⟩, h4⟩ := hq
    exact ⟨Or.inl ⟨r, u, h1, h2, h3⟩, h4⟩) (zr_i hx hb hr hlk hn hP hD hS u is hs hnd hd h)
theorem zx_v {post : Unit → S → Prop} {BT : Nat → ST → State → Prop} {postT : ST → Prop} (hx : p.tables.exec = Jvm.exec) (hb : c.code = cc) (hr : meth.sig.returnType = none) (hlk : meth.locks = false) (hP : va_P D vwCl ws H) (hD : va_D A ws) (hS : va_S A s.heap H locs) (u : S) (is : List Nat) (hs : is.map (fun i => ws[i]?) = (w1 u).map some) (hnd : va_nd is = true) (hd : decode cc pc = .ok (.return_, 1)) (h : post () u) :
    W p l e R s m args below meth c H locs cells slots (MT below (zQX (fun _ : Unit => none) post (zB D A w1) postT BT A) args s cells slots A) (F0 m pc ls []) :=
  W.mono (MQ_MT fun o t hq => by
    obtain ⟨⟨u, h1, h2, h3⟩, h4⟩ := hq
    exact ⟨Or.inl ⟨(), u, h1, h2, h3⟩, h4⟩) (zr_v (post := post ()) hx hb hr hlk hP hD hS u is hs hnd hd h)
end ZX3
