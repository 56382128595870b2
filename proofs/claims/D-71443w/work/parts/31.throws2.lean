/-! THROWS 2: contracts of methods that may throw; their calls -/
set_option maxRecDepth 100000
def zFE (first t : State) (L : List Loc) (k n : Nat) : Prop := first.WarmedH t.vm ∧ first.sameButNew ({ t with vm := first.vm } : State) L k n
/-- as Met, but the method may end by a throw -/
def MetX (l : Launch) (y : MethodName) (ws : List Cond) (rm : Room) (Pc : Array Value → State → Prop) (Qc : Array Value → State → Outcome → State → Prop) (mc ms : Nat) (free : Addr → Prop) : Prop :=
  MetFree l y (headSpec ws rm) Pc (fun _ _ _ _ _ => True) (fun a st o t => Qc a st o t ∧ ∃ L, zFE st t L mc ms ∧ ∀ q ∈ L, free q.base)
def MT (below : List Frame) (Qc : Array Value → State → Outcome → State → Prop) (a : Array Value) (s : State) (mc ms : Nat) (free : Addr → Prop) : State → Prop := fun t =>
  ∃ o, t.status = .running ∧ Ended t below o ∧ Qc a s o t ∧ ∃ L, zFE s t L mc ms ∧ ∀ q ∈ L, free q.base
theorem MQ_MT {below : List Frame} {Qc Qc' : Array Value → State → Outcome → State → Prop} {a : Array Value} {s : State} {mc ms : Nat} {free : Addr → Prop} (h : ∀ o t, Qc a s o t → Qc' a s o t) : ∀ t, MQ below Qc a s mc ms free t → MT below Qc' a s mc ms free t := by
  rintro t ⟨o, h1, h2, h3, L, h4, h5⟩
  exact ⟨o, h1, h2, h _ _ h3, L, h4.2, h5⟩
/-- a method with a code word (no handlers) or with handlers hh -/
def zCode (y : MethodName) (bytes : ByteArray) (maxL : Nat) (ret : Option FieldType) (hh : List (Nat × Nat × Nat × Nat)) (w : Cond) : Prop := (w = Cond.code y bytes maxL ret ∧ hh = []) ∨ w = Cond.codeWith y bytes maxL ret hh
theorem zCode_spec {y : MethodName} {bytes : ByteArray} {maxL : Nat} {ret : Option FieldType} {hh : List (Nat × Nat × Nat × Nat)} {w : Cond} (hw : zCode y bytes maxL ret hh w) {args : Array Value} {s : State} {m : MethodId} (hn : s.methodNamed? y = some m) (h : w.before args s = true) :
    ∃ meth c, s.vm.method? m = some meth ∧ meth.code = some c ∧ c.code = bytes ∧ c.maxLocals = maxL ∧ meth.sig.returnType = ret ∧ meth.locks = false ∧ c.exceptionTable.toList.map (fun h => (h.startPc, h.endPc, h.handlerPc, h.catchType)) = hh := by
  rcases hw with ⟨rfl, rfl⟩ | rfl
  · obtain ⟨meth, c, h1, h2, h3, h4, h5, h6, h7, -⟩ := Cond.code_spec hn h
    exact ⟨meth, c, h1, h2, h3, h4, h5, h6, by rw [show c.exceptionTable.toList = [] by simpa using h7]; rfl⟩
  · obtain ⟨m9, meth, c, hn9, h1, h2, h3, h4, h7, h5, h6, -⟩ := Cond.codeWith_spec h
    cases hn.symm.trans hn9
    exact ⟨meth, c, h1, h2, h3, h4, h5, h6, h7⟩
section ZX
variable {l : Launch}
theorem zMetX {y : MethodName} {rm : Room} {cc : ByteArray} {maxL : Nat} {ret : Option FieldType} {hh : List (Nat × Nat × Nat × Nat)} {w : Cond} {mc ms : Nat} {Pc : Array Value → State → Prop} {Qc : Array Value → State → Outcome → State → Prop} {free : Addr → Prop}
    (hy : plainName y.cls = true) (hw : zCode y cc maxL ret hh w)
    (body : ∀ p e s m args below meth c, p.tables.exec = Jvm.exec → c.code = cc → meth.sig.returnType = ret → c.maxLocals = maxL → s.vm.findClass y.cls = some m.cls → (∀ w ∈ lw_all, w.before args s = true) → meth.locks = false → meth.name = y.name → c.exceptionTable.toList.map (fun h => (h.startPc, h.endPc, h.handlerPc, h.catchType)) = hh → l.admits e → Pc args s →
      W p l e rm s m args below meth c s.heap [] 0 0 (MT below Qc args s mc ms free) (entryFrame m args maxL)) :
    MetX l y (w :: lw_all) rm Pc Qc mc ms free := by
  refine MetFree.of_bodyS (code := cc) (maxLocals := maxL) (ret := ret) hy ?_ ?_
  · intro args s m h hn
    obtain ⟨meth, c, h1, h2, h3, h4, h5, h6, -⟩ := zCode_spec hw hn (atoms_spec (ws := w :: lw_all) h _ List.mem_cons_self)
    exact ⟨meth, c, h1, h2, h3, h4, h5, h6⟩
  · intro p e s m args below meth c s₁ B hml hP _
    have hh0 : s₁.heap = s.heap := by rw [B.state]; rfl
    have hts := atoms_spec (ws := w :: lw_all) B.pre
    have htab : c.exceptionTable.toList.map (fun h => (h.startPc, h.endPc, h.handlerPc, h.catchType)) = hh := by
      obtain ⟨meth', c', h1, h2, -, -, -, -, h7⟩ := zCode_spec hw B.named (hts _ List.mem_cons_self)
      cases B.method.symm.trans h1
      cases (Stand.of_body B).code.symm.trans h2
      exact h7
    obtain ⟨t, a1, o, b1, b2, b3⟩ := body p e s m args below meth c B.exec B.bytes B.returns hml (findClass_of_methodNamed B.named) (fun w h => hts w (List.mem_cons_of_mem _ h)) B.notSynchronized (name_of_methodNamed B.named B.method).1 htab (Stand.of_body B).admits hP s₁ hh0 (Stand.of_body B)
    exact ⟨t, o, a1, b1, b2, ⟨b3.1, b3.2⟩⟩
variable {p : Program} {e : Env} {R : Room} {s : State} {m : MethodId} {args : Array Value} {below : List Frame} {meth : Method} {c : Code} {T : State} {locs : List Loc} {cells slots : Nat}
/-- inside an invocation of y: it comes back, with an answer or with a throw -/
theorem z_callX {y : MethodName} {ws : List Cond} {w : Cond} {rm : Room} {Pc : Array Value → State → Prop} {Qc : Array Value → State → Outcome → State → Prop} {mc ms : Nat} {free : Addr → Prop} {bytes : ByteArray} {maxL : Nat} {ret : Option FieldType} {hh : List (Nat × Nat × Nat × Nat)}
    (hM : MetX l y ws rm Pc Qc mc ms free) (hw : zCode y bytes maxL ret hh w) (hwin : w ∈ ws) (hblind : FrameBlind Pc) (hrc : rm.cells = mc) (hrs : rm.slots = ms) (hR : rm.frames + 1 ≤ R.frames ∧ 8 + (maxL + 11) + rm.locals ≤ R.locals)
    (hws : ∀ w ∈ ws, ∀ (a' : Array Value) (U : State), s.WarmedH U.vm → w.before a' U = true) (hini : (Cond.initialized y.cls).before args s = true)
    (X : Stand p l e R s m args below meth c T locs cells slots) {g : JFrame} (hg : g.method = m) (hsize : g.locals.size = c.maxLocals) {ig : Instr} {len : Nat} (hdg : decode c.code g.pc = .ok (ig, len)) (hW : 2 * g.monitorRoom + (g.stack.map fun v => v.category).sum ≤ 8)
    {mk : MethodId} (hn : T.methodNamed? y = some mk) {a : Array Value} (hf : cells + mc ≤ R.cells ∧ slots + ms ≤ R.slots) (hpre : Pc a T) :
    ∃ t : State, Steps p.tables e below (doInvoke e (T.setTop g) [] mk a).1 t ∧
      ((∃ (v : Option Value) (T' : State) (L : List Loc), Stand p l e R s m args below meth c T' (locs ++ L) (cells + mc) (slots + ms) ∧ T'.heap = t.heap ∧ (∀ q ∈ L, free q.base) ∧ Qc a (T.calling g mk a) (.returned v) t ∧ t = T'.setTop { g with pc := g.pc + len, stack := v.toList ++ g.stack }) ∨
       (∃ (x : Nat) (T' : State) (L : List Loc), Stand p l e R s m args below meth c T' (locs ++ L) (cells + mc) (slots + ms) ∧ T'.heap = t.heap ∧ (∀ q ∈ L, free q.base) ∧ Qc a (T.calling g mk a) (.threw x) t ∧ t = (T'.setTop g).pushFrame (.throwing x))) := by
  have h : At T g.method c below := by rw [hg]; exact X.here
  obtain ⟨methY, cY, hmY, hcY, -, hlY, -, -, -⟩ := zCode_spec hw hn (hws _ hwin a T X.warmed)
  obtain ⟨kY, hkY, -⟩ := className_of_methodNamed hn
  have hinitY : kY.init = .initialized := Cond.initialized_spec (findClass_of_methodNamed hn) hkY (word_at (a' := a) X.warmed (Or.inl (by first | rfl | simp [Cond.onTables, Cond.keeps, Cond.steady])) hini)
  have happ : (headSpec ws rm).appliesLoose y e.platform (T.calling g mk a) = true :=
    Spec.appliesLoose_calling (g := g) h hdg hn hkY hinitY
      (X.room_calling (g := g) (R' := (headSpec ws rm).room) hsize hmY hcY hR.1 (by show _ + rm.locals ≤ _; rw [hlY]; omega) (by show cells + rm.cells ≤ _; rw [hrc]; exact hf.1) (by show slots + rm.slots ≤ _; rw [hrs]; exact hf.2)) (atoms_intro fun w hw => hws w hw _ _ X.warmed)
  obtain ⟨mid, hmid⟩ := h.above
  have hfr : (T.setTop g).frames = (.java g :: mid) ++ below := by rw [State.frames_setTop' g h.top, hmid]; rfl
  obtain ⟨o, s₂, hsteps, -, hend, hq, L, ⟨hW2, hsame⟩, hL⟩ := Steps.callFree hM p X.admits X.cas X.clock (acts := []) hfr happ (hblind _ _ _ _ hpre) trivial
  rw [State.frames_setTop' g h.top, X.tail] at hend
  refine ⟨s₂, hsteps, ?_⟩
  cases o with
  | returned v =>
    obtain ⟨T', X', -, -, ht⟩ := X.outOf hg hdg hend hW2 hsame
    exact Or.inl ⟨v, T', L, X', by rw [ht]; rfl, hL, hq, ht⟩
  | threw x =>
    obtain ⟨T', X', -, -, ht⟩ := X.outOfThrown hg hend hW2 hsame
    exact Or.inr ⟨x, T', L, X', by rw [ht]; exact (Stand.throwing_heap _ _ _).symm, hL, hq, ht⟩
end ZX
section ZL
variable {p : Program} {l : Launch} {e : Env} {R : Room} {s : State} {m : MethodId} {args : Array Value} {below : List Frame} {meth : Method} {c : Code} {H : Heap} {locs : List Loc} {cells slots : Nat} {Q : State → Prop}
variable {pc : Nat} {ls : Array Slot} {st : List Value}
/-- thrown out of the method -/
theorem z_leave {Qc : Array Value → State → Outcome → State → Prop} {free : Addr → Prop} {x : Nat} (hlk : meth.locks = false) (hout : ∀ y ∈ c.exceptionTable.toList, covers y pc = false) (hq : ∀ t : State, t.heap = H → s.WarmedH t.vm → Qc args s (.threw x) t) (hf : ∀ q ∈ locs, free q.base) :
    WT p l e R s m args below meth c H locs cells slots (MT below Qc args s cells slots free) (F0 m pc ls st) x := by
  intro T hT X
  obtain ⟨h1, h2, h3, h4, h5⟩ := X.leaveThrown x (g := F0 m pc ls st) rfl rfl rfl hout hlk
  exact ⟨_, h1, .threw x, h2, h3, hq _ hT h4, locs, ⟨h4, h5⟩, hf⟩
end ZL
