/-! THROWS 4: the machine's own exceptions, up to the moment where the new object is thrown over the frame that stands there -/
set_option maxRecDepth 100000
section ZR4
variable {p : Program} {l : Launch} {e : Env} {R : Room} {s : State} {m₀ : MethodId} {args : Array Value} {below : List Frame} {meth : Method} {c : Code} {T' : State} {locs : List Loc} {cells slots : Nat}
/-- what has come of it: k new cells, the last one of the class cls, is thrown -/
def zRise (p : Program) (l : Launch) (e : Env) (R : Room) (s : State) (m₀ : MethodId) (args : Array Value) (below : List Frame) (meth : Method) (c : Code) (T' : State) (locs : List Loc) (cells slots k n : Nat) (g : JFrame) (note : Frame) (cls : String) : Prop :=
  ∃ (T2 : State) (x : Nat) (cell : Cell), Stand p l e R s m₀ args below meth c T2 locs (cells + k) (slots + n) ∧ T'.heap.size ≤ T2.heap.size ∧ (∀ q : Nat, q < T'.heap.size → T2.heap[q]? = T'.heap[q]?) ∧ T'.heap.size ≤ x ∧ T2.heap[x]? = some cell ∧ cell.vm.isStatics = false ∧ s.vm.findClass cls = some cell.cls ∧
    ∀ target, Steps p.tables e below ((T2.setTop g).pushFrame (.throwing x)) target → Steps p.tables e below ((T'.setTop g).pushFrame note) target
theorem zRise_frames (X : Stand p l e R s m₀ args below meth c T' locs cells slots) {T2 : State} {locs2 : List Loc} {cells2 slots2 : Nat} (X2 : Stand p l e R s m₀ args below meth c T2 locs2 cells2 slots2) (g : JFrame) (x : Nat) : (T2.setTop g).pushFrame (.throwing x) = T2.setFrames (.throwing x :: .java g :: T'.frames.tail) := by
  obtain ⟨g₁, hfr⟩ := X2.frames_eq
  rw [State.pushFrame, State.frames_setTop _ hfr, State.setTop_of_frames _ hfr, State.setFrames_setFrames, X.tail]
set_option maxHeartbeats 4000000 in
theorem z_npeRise (X : Stand p l e R s m₀ args below meth c T' locs cells slots) (hexec : p.tables.exec = Jvm.exec) (htr : e.platform.stackTraces = false) {n : Nat} (h : ∀ a ∈ Bundle.npeArmAtoms n, a.before args s = true)
    (hlocs : ∀ x ∈ locs, ∀ cell, s.heap[x.base]? = some cell → cell.vm.isStatics = false)
    {g : JFrame} (hg : g.method = m₀) (hsize : g.locals.size = c.maxLocals)
    (hRframes : 7 < R.frames) (hRlocals : 2 * g.monitorRoom + (g.stack.map fun v => v.category).sum + 10240 ≤ R.locals) (hRcells : cells + 1 ≤ R.cells) (hRslots : slots + n ≤ R.slots) :
    zRise p l e R s m₀ args below meth c T' locs cells slots 1 n g (.throwNew "java/lang/NullPointerException" none none) "java/lang/NullPointerException" := by
  have howns : e.platform.frameOwnsMonitors = true := by rw [X.admits.platform]
  have hfin : e.platform.finalization = false := by rw [X.admits.platform]
  have hpl : e.platform.magicAccessors = ({} : Platform).magicAccessors := by rw [X.admits.platform]
  have hpl2 : e.platform.arrayCloneIsPublic = true := by rw [X.admits.platform]
  have w : ∀ y, y ∈ Bundle.npeArmAtoms n → y.holds args s none s [] = true := fun y hy => h y hy
  -- Throwable, NullPointerException, the constructors on the way
  obtain ⟨K, Z, L, LZ, Y⟩ := ThrowableC.of_atoms (args := args) howns hfin hpl (fun y hy => h y (by simp [Bundle.npeArmAtoms, hy]))
  obtain ⟨N, LN, hcN, hnNF, hordN, hffS⟩ := NpeC.of_atoms (args := args) hpl hpl2 L Y (fun y hy => h y (by simp [Bundle.npeArmAtoms, hy]))
  obtain ⟨P1, L1, n1, s1⟩ := PassC.of_atoms (args := args) (s := s) hpl (X := Bundle.nN) (Y := Bundle.rN) (by decide) (by decide) LibCode.NullPointerException.Init0.at_0 LibCode.NullPointerException.Init0.at_1 LibCode.NullPointerException.Init0.at_4 (fun y hy => h y (by simp [Bundle.npeArmAtoms, hy]))
  obtain ⟨P2, L2, n2, s2⟩ := PassC.of_atoms (args := args) (s := s) hpl (X := Bundle.rN) (Y := Bundle.eN) (by decide) (by decide) LibCode.RuntimeException.Init0.at_0 LibCode.RuntimeException.Init0.at_1 LibCode.RuntimeException.Init0.at_4 (fun y hy => h y (by simp [Bundle.npeArmAtoms, hy]))
  obtain ⟨P3, L3, n3, s3⟩ := PassC.of_atoms (args := args) (s := s) hpl (X := Bundle.eN) (Y := Bundle.tN) (by decide) (by decide) LibCode.Exception.Init0.at_0 LibCode.Exception.Init0.at_1 LibCode.Exception.Init0.at_4 (fun y hy => h y (by simp [Bundle.npeArmAtoms, hy]))
  have hf : s.vm.findClass Bundle.nN = some P1.m.cls := findClass_of_methodNamed n1
  have hcls : N.cN = P1.m.cls := Option.some.inj (hcN.symm.trans hf)
  have hk : s.vm.classes[P1.m.cls]? = some N.kN := by rw [← hcls]; exact LN.cls
  have hi := Cond.initialized_spec hf hk (w (.initialized Bundle.nN) (by simp [Bundle.npeArmAtoms]))
  obtain ⟨c1, k1, q1, q2, -, -, -, hn⟩ := Cond.instantiable_spec (w (.instantiable Bundle.nN n) (by simp [Bundle.npeArmAtoms]))
  cases Option.some.inj (q1.symm.trans hf)
  cases Option.some.inj (q2.symm.trans hk)
  have e1 : P1.sup = P2.m := Option.some.inj (s1.symm.trans n2)
  have e2 : P2.sup = P3.m := Option.some.inj (s2.symm.trans n3)
  have e3 : P3.sup = Z.m K.toThrowableT := Option.some.inj (s3.symm.trans Y.init0)
  have d0 : selectMethod e.platform s.vm P1.m.cls K.fill0 = .method K.fill0 := by
    obtain ⟨_, _, _, r1, r2, r3, r4, -⟩ := Cond.selects_spec (w (.selects Bundle.nN Bundle.tFill0 Bundle.tFill0) (by simp [Bundle.npeArmAtoms]))
    cases Option.some.inj (r1.symm.trans hf)
    cases Option.some.inj (r2.symm.trans (State.methodFound?_of_named Y.fill0 (by decide)))
    cases Option.some.inj (r3.symm.trans Y.fill0)
    rw [Launch.admits_selectMethod X.admits]
    exact r4
  have d1 : selectMethod e.platform s.vm P1.m.cls K.fill = .method N.fill := by
    obtain ⟨_, _, _, r1, r2, r3, r4, -⟩ := Cond.selects_spec (w (.selects Bundle.nN Bundle.tFill Bundle.nFill) (by simp [Bundle.npeArmAtoms]))
    cases Option.some.inj (r1.symm.trans hf)
    cases Option.some.inj (r2.symm.trans (State.methodFound?_of_named Y.fill (by decide)))
    cases Option.some.inj (r3.symm.trans hnNF)
    rw [Launch.admits_selectMethod X.admits]
    exact r4
  -- Throwable's statics, as they are now
  obtain ⟨cS0, hS0, hst⟩ := Y.statics
  obtain ⟨u0, hu0⟩ := Cond.staticRefV Y.unassigned L.unassignedStatic L.statics hS0 hst (w (.isRef (.static Bundle.tN "UNASSIGNED_STACK" Bundle.steD)) (by simp [Bundle.npeArmAtoms]))
  obtain ⟨u1, hu1⟩ := Cond.staticRefV Y.sentinel L.sentinelStatic L.statics hS0 hst (w (.isRef (.static Bundle.tN "SUPPRESSED_SENTINEL" Bundle.listD)) (by simp [Bundle.npeArmAtoms]))
  obtain ⟨bi, bj, fB, v1, v2, v3, v4, -, v5, v6, v7⟩ := Cond.ownField (t := .object "java/lang/Object") Y.found L.cls (by decide +kernel) (w (.fieldLink Bundle.tN 198 Bundle.tN "backtrace" Bundle.objD) (by simp [Bundle.npeArmAtoms])) (w (.lays Bundle.tN Bundle.tN "backtrace" Bundle.objD) (by simp [Bundle.npeArmAtoms])) e.platform hpl
  obtain ⟨cS, hcS, hcv, -, hkeep⟩ := X.same.2.2.2.2.2 K.aS cS0 hS0
  have hno : ∀ i, (⟨K.aS, i⟩ : Loc) ∉ locs := fun i hm => by
    have := hlocs _ hm cS0 hS0
    rw [hst] at this
    cases this
  have hkn : cS.vm ≠ .unknown := by
    rw [hcv]
    intro hu
    rw [show cS0.vm = .unknown from hu] at hst
    cases hst
  -- the fields' places
  obtain ⟨tyC, dC, a1, a2⟩ := Cond.laysAt hf hk Y.cause (w (.lays Bundle.nN Bundle.tN "cause" "Ljava/lang/Throwable;") (by simp [Bundle.npeArmAtoms]))
  obtain ⟨tyS, dS, a3, a4⟩ := Cond.laysAt hf hk Y.stack (w (.lays Bundle.nN Bundle.tN "stackTrace" Bundle.steD) (by simp [Bundle.npeArmAtoms]))
  obtain ⟨tyP, dP, a5, a6⟩ := Cond.laysAt hf hk Y.supp (w (.lays Bundle.nN Bundle.tN "suppressedExceptions" Bundle.listD) (by simp [Bundle.npeArmAtoms]))
  obtain ⟨tyX, dX, a7, a8⟩ := Cond.laysAt hf hk hffS (w (.lays Bundle.nN Bundle.nN "extendedMessageState" "I") (by simp [Bundle.npeArmAtoms, Bundle.npeAtoms]))
  obtain ⟨tyB, dB, a9, a10⟩ := Cond.laysAt hf hk v7 (w (.lays Bundle.nN Bundle.tN "backtrace" Bundle.objD) (by simp [Bundle.npeArmAtoms]))
  have nX : N.fState.name = "extendedMessageState" := (State.fieldFound?_type hffS (t := .int) (by decide +kernel)).1
  have b1 := Cond.laysApart a9 a1 a10 a2 (by rw [v5, Y.causeName]; decide)
  have b2 := Cond.laysApart a9 a3 a10 a4 (by rw [v5, Y.stackName]; decide)
  have b3 := Cond.laysApart a9 a5 a10 a6 (by rw [v5, Y.suppName]; decide)
  have b4 := Cond.laysApart a9 a7 a10 a8 (by rw [v5, nX]; decide)
  have hskip : SkipFacts K e.platform s (fun u => u) u0 ((npeCell N.toNpeT (preparedCellV K.toThrowableT (freshCell P1.m.cls N.kN) T'.heap.size u0 u1) T'.cur).withEntry T'.cur) := by
    refine ⟨{ ci198 := bi, i198 := bj, fBack := fB }, ⟨v1, v2, v3, v4⟩, ?_, fun _ _ => rfl⟩
    have := fresh_default (c := P1.m.cls) tyB
    rw [v6] at this
    simpa [npeCell, preparedCellV, Cell.setSlot, Cell.withEntry, Array.getElem?_setIfInBounds, b1, b2, b3, b4, b1.symm, b2.symm, b3.symm, b4.symm, defaultValue] using this
  -- the machine's road
  have hAt : At T' g.method c below := by rw [hg]; exact X.here
  obtain ⟨hbeyond, hfreeW⟩ := X.vmMayThrow hsize (.throwNew "java/lang/NullPointerException" none none) (fun f hf => by cases hf) rfl hRlocals
  obtain ⟨vm', hW', st⟩ := Steps.vmThrowsNpeColdByV p (s₀ := s) (S := T') (g := g) hAt hexec K L Z LZ N LN X.warmed (t := T'.cur) rfl P1 L1 [P2, P3] (fun P hP => by
      simp only [List.mem_cons, List.not_mem_nil, or_false] at hP
      rcases hP with rfl | rfl
      · exact L2
      · exact L3) e1 ⟨e2, e3, trivial⟩ hf hk hi hordN (findMethod_of_methodNamed n1 hk)
    (Launch.admits_hotImplicitExceptions X.admits) hbeyond hfreeW (X.cellsAbove hRcells) (X.slotsAbove (by rw [hn]; exact hRslots))
    (Nn := fun u => u) heapOnly_id (fun _ _ => rfl) (fun _ => rfl) (fun u x y => setCell_twice _ _ _ _) (fun _ => Nat.le_refl _) (cN := ((npeCell N.toNpeT (preparedCellV K.toThrowableT (freshCell P1.m.cls N.kN) T'.heap.size u0 u1) T'.cur).withEntry T'.cur))
    d0 hcS hkn (by rw [hkeep _ (hno _)]; exact hu0) (by rw [fresh_default tyX, LN.stateInt]; rfl)
    (Cond.laysApart a1 a7 a2 a8 (by rw [Y.causeName, nX]; decide)) (Cond.laysApart a3 a7 a4 a8 (by rw [Y.stackName, nX]; decide)) (Cond.laysApart a5 a7 a6 a8 (by rw [Y.suppName, nX]; decide))
    (Takes.of_laid hk hordN tyS (by rw [Y.stackType]; exact fits_refV_array _ u0)) (Takes.of_laid hk hordN tyX (by rw [LN.stateInt]; rfl)) (fun _ hu => hu) (fun _ hu => hu) rfl rfl rfl (by simp [npeCell, preparedCellV, Cell.setSlot, Cell.withEntry]) hskip
    (fun _ _ hA hW _ hroom _ hrest => L.nativeOff p htr hA hW hroom hrest) d1 (by rw [hkeep _ (hno _)]; exact hu1) (Takes.of_laid hk hordN tyC (by rw [Y.causeType]; rfl)) (Takes.of_laid hk hordN tyP (by rw [Y.suppType]; exact fits_refV_object _ u1)) Y.objLocals rfl
    (by have := X.framesAbove hRframes; simp; omega) (by have := X.stackAbove hsize (K := 94) (by omega); simp; omega)
  rw [npeBareV_eq K.toThrowableT N.toNpeT T'.heap.size u0 u1 T'.cur rfl rfl] at st
  -- where it stands now
  have X2 := (X.pushed (freshCell P1.m.cls N.kN)).noted hW'
  have hsz : ((T'.pushCell (freshCell P1.m.cls N.kN)).setVm vm').heap.size = T'.heap.size + 1 := State.heap_size_pushCell _ _
  have hlt : T'.heap.size < ((T'.pushCell (freshCell P1.m.cls N.kN)).setVm vm').heap.size := by rw [hsz]; omega
  have hcell : ((T'.pushCell (freshCell P1.m.cls N.kN)).setVm vm').heap[T'.heap.size]? = some (freshCell P1.m.cls N.kN) := State.heap_pushCell_size T' (freshCell P1.m.cls N.kN)
  have X3 := ((((X2.stored hcell K.fCause.slot (.ref T'.heap.size)).storedAgain hlt K.fStack.slot u0.v).storedAgain hlt K.fSupp.slot u1.v).storedAgain hlt N.fState.slot (.int 1)).storedAgain hlt K.fStack.slot u0.v
  simp only [List.append_assoc, List.cons_append, List.nil_append] at X3
  have hge : s.heap.size ≤ T'.heap.size := X.same.2.1
  have X4 := X3.forget (fun y hy => by
    simp only [List.mem_cons, List.not_mem_nil, or_false] at hy
    rcases hy with rfl | rfl | rfl | rfl | rfl <;> exact hge)
  have hfs : (freshCell P1.m.cls N.kN).slots.size = n := by simp [hn]
  rw [hfs] at X4
  refine ⟨_, T'.heap.size, npeBareV K.toThrowableT N.toNpeT (freshCell P1.m.cls N.kN) T'.heap.size u0 u1, X4, ?_, fun q hq => ?_, Nat.le_refl _, ?_, rfl, hf, fun target ht => ?_⟩
  · rw [size_setCell, hsz]
    omega
  · simp [State.setCell, State.pushCell, State.setVm, Array.getElem?_setIfInBounds, Array.getElem?_push, Nat.ne_of_lt hq, Nat.ne_of_gt hq]
  · exact heapAt_setCell_self (s := (T'.pushCell (freshCell P1.m.cls N.kN)).setVm vm') _ hlt
  · rw [zRise_frames X X4 g _] at ht
    exact st target ht
set_option maxHeartbeats 4000000 in
theorem z_msgRise (X : Stand p l e R s m₀ args below meth c T' locs cells slots) (hexec : p.tables.exec = Jvm.exec) (htr : e.platform.stackTraces = false) {cls : String} {names : List String} {text : String}
    (hcls : Bundle.fit cls = true) (hnames : ∀ n ∈ names, Bundle.fit n = true) (hsoe : (cls == "java/lang/StackOverflowError") = false) (hoom : (cls == "java/lang/OutOfMemoryError") = false)
    (h : ∀ a ∈ Bundle.messageArmAtoms cls names, a.before args s = true)
    (hlocs : ∀ x ∈ locs, ∀ cell, s.heap[x.base]? = some cell → cell.vm.isStatics = false)
    (htext : (text == notModelled) = false) (hlimit : ¬ (stringBytes (stringToUtf16 text)).size > e.platform.arrayLengthLimit) (hheap : ¬ (stringBytes (stringToUtf16 text)).size * componentBytes .byte > e.platform.maxHeapBytes)
    {g : JFrame} (hg : g.method = m₀) (hsize : g.locals.size = c.maxLocals) {n : Nat} (hn : (stringBytes (stringToUtf16 text)).size + 4 + 6 ≤ n)
    (hRframes : names.length + 4 < R.frames) (hRlocals : 2 * g.monitorRoom + (g.stack.map fun v => v.category).sum + 10240 ≤ R.locals) (hshort : 13 * names.length + 55 ≤ 10240) (hRcells : cells + 3 ≤ R.cells) (hRslots : slots + n ≤ R.slots) :
    zRise p l e R s m₀ args below meth c T' locs cells slots 3 n g (.throwNew cls (some text) none) cls := by
  have howns : e.platform.frameOwnsMonitors = true := by rw [X.admits.platform]
  have hfin : e.platform.finalization = false := by rw [X.admits.platform]
  have hpl : e.platform.magicAccessors = ({} : Platform).magicAccessors := by rw [X.admits.platform]
  have w : ∀ y, y ∈ Bundle.messageArmAtoms cls names → y.holds args s none s [] = true := fun y hy => h y hy
  obtain ⟨K, Z0, L, -, Y⟩ := ThrowableC.of_atoms (args := args) howns hfin hpl (fun y hy => h y (by simp [Bundle.messageArmAtoms, hy]))
  obtain ⟨Z, M, LZ, LM, hnZ⟩ := Init0T.ofS_atoms (args := args) hpl L Y (fun y hy => h y (by simp [Bundle.messageArmAtoms, hy]))
  obtain ⟨P1, Ps, hlen, L1, hL, n1, e1, e2⟩ := Bundle.chainS (args := args) hpl hnZ names cls hcls hnames (fun y hy => h y (by simp [Bundle.messageArmAtoms, hy]))
  obtain ⟨V, LV, h4, fitv, fitc⟩ := StringT.of_atoms (args := args) (fun y hy => h y (by simp [Bundle.messageArmAtoms, hy]))
  have hf : s.vm.findClass cls = some P1.m.cls := findClass_of_methodNamed n1
  obtain ⟨c1, kX, q1, hk, hord, -, -, h6⟩ := Cond.instantiable_spec (w (.instantiable cls 6) (by simp [Bundle.messageArmAtoms]))
  cases Option.some.inj (q1.symm.trans hf)
  have hi := Cond.initialized_spec hf hk (w (.initialized cls) (by simp [Bundle.messageArmAtoms]))
  have d0 : selectMethod e.platform s.vm P1.m.cls K.fill0 = .method K.fill0 := by
    obtain ⟨_, _, _, r1, r2, r3, r4, -⟩ := Cond.selects_spec (w (.selects cls Bundle.tFill0 Bundle.tFill0) (by simp [Bundle.messageArmAtoms]))
    cases Option.some.inj (r1.symm.trans hf)
    cases Option.some.inj (r2.symm.trans (State.methodFound?_of_named Y.fill0 (by decide)))
    cases Option.some.inj (r3.symm.trans Y.fill0)
    rw [Launch.admits_selectMethod X.admits]
    exact r4
  have d1 : selectMethod e.platform s.vm P1.m.cls K.fill = .method K.fill := by
    obtain ⟨_, _, _, r1, r2, r3, r4, -⟩ := Cond.selects_spec (w (.selects cls Bundle.tFill Bundle.tFill) (by simp [Bundle.messageArmAtoms]))
    cases Option.some.inj (r1.symm.trans hf)
    cases Option.some.inj (r2.symm.trans (State.methodFound?_of_named Y.fill (by decide)))
    cases Option.some.inj (r3.symm.trans Y.fill)
    rw [Launch.admits_selectMethod X.admits]
    exact r4
  obtain ⟨cS0, hS0, hst⟩ := Y.statics
  obtain ⟨u0, hu0⟩ := Cond.staticRefV Y.unassigned L.unassignedStatic L.statics hS0 hst (w (.isRef (.static Bundle.tN "UNASSIGNED_STACK" Bundle.steD)) (by simp [Bundle.messageArmAtoms]))
  obtain ⟨u1, hu1⟩ := Cond.staticRefV Y.sentinel L.sentinelStatic L.statics hS0 hst (w (.isRef (.static Bundle.tN "SUPPRESSED_SENTINEL" Bundle.listD)) (by simp [Bundle.messageArmAtoms]))
  obtain ⟨bi, bj, fB, v1, v2, v3, v4, -, v5, v6, v7⟩ := Cond.ownField (t := .object "java/lang/Object") Y.found L.cls (by decide +kernel) (w (.fieldLink Bundle.tN 198 Bundle.tN "backtrace" "Ljava/lang/Object;") (by simp [Bundle.messageArmAtoms])) (w (.lays Bundle.tN Bundle.tN "backtrace" "Ljava/lang/Object;") (by simp [Bundle.messageArmAtoms])) e.platform hpl
  obtain ⟨cS, hcS, hcv, -, hkeep⟩ := X.same.2.2.2.2.2 K.aS cS0 hS0
  have hno : ∀ i, (⟨K.aS, i⟩ : Loc) ∉ locs := fun i hm => by
    have := hlocs _ hm cS0 hS0
    rw [hst] at this
    cases this
  have hkn : cS.vm ≠ .unknown := by
    rw [hcv]
    intro hu
    rw [show cS0.vm = .unknown from hu] at hst
    cases hst
  obtain ⟨iM, hffM⟩ := Y.msg
  obtain ⟨tyC, dC, a1, a2⟩ := Cond.laysAt hf hk Y.cause (w (.lays cls Bundle.tN "cause" "Ljava/lang/Throwable;") (by simp [Bundle.messageArmAtoms]))
  obtain ⟨tyS, dS, a3, a4⟩ := Cond.laysAt hf hk Y.stack (w (.lays cls Bundle.tN "stackTrace" Bundle.steD) (by simp [Bundle.messageArmAtoms]))
  obtain ⟨tyP, dP, a5, a6⟩ := Cond.laysAt hf hk Y.supp (w (.lays cls Bundle.tN "suppressedExceptions" Bundle.listD) (by simp [Bundle.messageArmAtoms]))
  obtain ⟨tyM, dM, a7, a8⟩ := Cond.laysAt hf hk hffM (w (.lays cls Bundle.tN "detailMessage" "Ljava/lang/String;") (by simp [Bundle.messageArmAtoms]))
  obtain ⟨tyB, dB, a9, a10⟩ := Cond.laysAt hf hk v7 (w (.lays cls Bundle.tN "backtrace" "Ljava/lang/Object;") (by simp [Bundle.messageArmAtoms]))
  have b1 := Cond.laysApart a9 a1 a10 a2 (by rw [v5, Y.causeName]; decide)
  have b2 := Cond.laysApart a9 a3 a10 a4 (by rw [v5, Y.stackName]; decide)
  have b3 := Cond.laysApart a9 a5 a10 a6 (by rw [v5, Y.suppName]; decide)
  have hskip : SkipFacts K e.platform s (fun u => u) u0 ((preparedCellV K.toThrowableT (freshCell P1.m.cls kX) (T'.heap.size + 2) u0 u1).withEntry T'.cur) := by
    refine ⟨{ ci198 := bi, i198 := bj, fBack := fB }, ⟨v1, v2, v3, v4⟩, ?_, fun _ _ => rfl⟩
    have := fresh_default (c := P1.m.cls) tyB
    rw [v6] at this
    simpa [preparedCellV, Cell.setSlot, Cell.withEntry, Array.getElem?_setIfInBounds, b1, b2, b3, b1.symm, b2.symm, b3.symm, defaultValue] using this
  have hAt : At T' g.method c below := by rw [hg]; exact X.here
  obtain ⟨hbeyond, hfreeW⟩ := X.vmMayThrow hsize (.throwNew cls (some text) none) (fun f hf => by cases hf) rfl hRlocals
  have hsl : T'.slotsUsed + (stringBytes (stringToUtf16 text)).size + V.kS.instanceTypes.size + kX.instanceTypes.size ≤ e.platform.maxSlots := by
    have := X.slotsAbove hRslots
    rw [h4, h6]
    omega
  obtain ⟨vm', hW', st⟩ := Steps.vmThrowsMessageColdByV p (s₀ := s) (S := T') (g := g) hAt hexec K L Z LZ M LM X.warmed (t := T'.cur) rfl V LV P1 L1 Ps hL e1 e2 hsoe hoom hf hk hi hord (findMethod_of_methodNamed n1 hk)
    (Launch.admits_hotImplicitExceptions X.admits) hbeyond hfreeW htext hlimit hheap (X.cellsAbove hRcells) hsl (fitv _) (fitc _)
    (Nn := fun u => u) heapOnly_id (fun _ _ => rfl) (fun _ => rfl) (fun u x y => setCell_twice _ _ _ _) (fun _ => Nat.le_refl _) (cN := ((preparedCellV K.toThrowableT (freshCell P1.m.cls kX) (T'.heap.size + 2) u0 u1).withEntry T'.cur))
    d0 hcS hkn (by rw [hkeep _ (hno _)]; exact hu0) (Takes.of_laid hk hord tyS (by rw [Y.stackType]; exact fits_refV_array _ u0)) (fun _ hu => hu) (fun _ hu => hu) rfl rfl rfl (by simp [preparedCellV, Cell.setSlot, Cell.withEntry]) hskip
    (fun _ _ hA hW _ hroom _ hrest => L.nativeOff p htr hA hW hroom hrest) d1 (by rw [hkeep _ (hno _)]; exact hu1) (Takes.of_laid hk hord tyC (by rw [Y.causeType]; rfl)) (Takes.of_laid hk hord tyP (by rw [Y.suppType]; exact fits_refV_object _ u1)) (Takes.of_laid hk hord tyM (by rw [Y.msgType]; rfl)) Y.objLocals rfl
    (by have := X.framesAbove hRframes; rw [hlen]; omega) (by have := X.stackAbove hsize (K := 13 * names.length + 55) (by omega); rw [hlen]; omega)
  rw [plainBareV_eq K.toThrowableT (T'.heap.size + 2) u0 u1 (.ref (T'.heap.size + 1)) T'.cur rfl rfl] at st
  obtain ⟨-, -, w3, w4, -, -, -⟩ := withThrown_facts e.platform T' V text P1.m.cls kX
  have X3 := ((X.pushed (bytesOf V.cB (stringToUtf16 text))).pushed (stringAt V.cS V.kS V.fv V.fc (stringToUtf16 text) T'.heap.size)).pushed (freshCell P1.m.cls kX)
  have hold : ∀ q : Nat, q < T'.heap.size → (withThrown T' V text P1.m.cls kX).heap[q]? = T'.heap[q]? := by
    intro q hq
    simp only [withThrown, withString_eq]
    have h2 : q ≠ T'.heap.size + 1 := by omega
    have h3 : q ≠ T'.heap.size + 1 + 1 := by omega
    simp [State.pushCell, Array.getElem?_push, Nat.ne_of_lt hq, h2, h3]
  rw [← withString_eq] at X3
  have X4 := X3.noted hW'
  have hlt : (T'.heap.size + 2) < ((withThrown T' V text P1.m.cls kX).setVm vm').heap.size := by show _ < (withThrown T' V text P1.m.cls kX).heap.size; rw [w3]; omega
  have hcell : ((withThrown T' V text P1.m.cls kX).setVm vm').heap[(T'.heap.size + 2)]? = some (freshCell P1.m.cls kX) := w4
  have X5 := ((((X4.stored hcell K.fCause.slot (.ref (T'.heap.size + 2))).storedAgain hlt K.fStack.slot u0.v).storedAgain hlt K.fSupp.slot u1.v).storedAgain hlt K.fStack.slot u0.v).storedAgain hlt K.fMsg.slot (.ref (T'.heap.size + 1))
  simp only [List.append_assoc, List.cons_append, List.nil_append] at X5
  have hge : s.heap.size ≤ T'.heap.size := X.same.2.1
  have X6 := X5.forget (fun y hy => by
    simp only [List.mem_cons, List.not_mem_nil, or_false] at hy
    rcases hy with rfl | rfl | rfl | rfl | rfl <;> exact Nat.le_trans hge (Nat.le_add_right _ 2))
  have g1 : (bytesOf V.cB (stringToUtf16 text)).slots.size = (stringBytes (stringToUtf16 text)).size := by
    rw [(Cell.writeAll_facts _ _).2.2]; simp [bytes0]
  have g2 : (stringAt V.cS V.kS V.fv V.fc (stringToUtf16 text) T'.heap.size).slots.size = 4 := by simp [string0, Cell.setSlot, h4]
  have g3 : (freshCell P1.m.cls kX).slots.size = 6 := by simp [h6]
  have X7 := stand_widen X6 (k := cells + 3) (n := slots + n) (by omega) (by rw [g1, g2, g3]; omega)
  refine ⟨_, T'.heap.size + 2, plainBareV K.toThrowableT (freshCell P1.m.cls kX) (T'.heap.size + 2) u0 u1 (.ref (T'.heap.size + 1)), X7, ?_, fun q hq => ?_, by omega, ?_, rfl, hf, fun target ht => ?_⟩
  · rw [size_setCell]
    exact Nat.le_of_lt (Nat.lt_of_le_of_lt (Nat.le_add_right _ 2) hlt)
  · rw [← hold q hq]
    simp [State.setCell, State.setVm, Array.getElem?_setIfInBounds]
    intro h9
    omega
  · exact heapAt_setCell_self (s := (withThrown T' V text P1.m.cls kX).setVm vm') _ hlt
  · rw [zRise_frames X X7 g _] at ht
    exact st target ht
end ZR4
