/-! THROWS 1: the search for a handler, where the catch types' links may be open yet -/
set_option maxRecDepth 100000
section ZF
variable {e : Env} {f : JFrame} {a : Addr}
/-- the search gives h and leaves the tables vm' -/
def zFd (e : Env) (s : State) (vm' : Vm) (f : JFrame) (a : Addr) (h : Handler) : Prop :=
  ∀ (Q : Handler → Pre) (E : CtlPost) (d : Bool) (acts : List Action), wp (findHandler f a) Q E e d acts s ↔ Q h d acts (s.setVm vm')
theorem z_go_cls {E : CtlPost} {d : Bool} {acts : List Action} {s : State} {Q : Handler → Pre} {x : ExceptionTableEntry} {t : List ExceptionTableEntry} {c : ClassId} {cell : Cell} (hx : covers x f.pc = true) (h0 : x.catchType ≠ 0)
    (hr : s.vm.ClassLinks e.platform f.method.cls x.catchType c) (hcell : s.heap[a]? = some cell) (hobj : ∀ k, cell.vm ≠ .statics k)
    (hk : ∃ k, (s.vm.noted f.method.cls x.catchType (.cls c)).classes[cell.cls]? = some k) (hc : ∃ k, (s.vm.noted f.method.cls x.catchType (.cls c)).classes[c]? = some k) :
    wp (findHandler.go f a (x :: t)) Q E e d acts s ↔
      if (s.vm.noted f.method.cls x.catchType (.cls c)).assignable cell.cls c = true then Q (.found x.handlerPc) d acts (s.setVm (s.vm.noted f.method.cls x.catchType (.cls c))) else wp (findHandler.go f a t) Q E e d acts (s.setVm (s.vm.noted f.method.cls x.catchType (.cls c))) := by
  simp only [covers] at hx
  have hg : (VmOp.resolveClass f.method.cls x.catchType).answer e s.vm = .ok c ∧ (VmOp.resolveClass f.method.cls x.catchType).tables e s.vm = s.vm.noted f.method.cls x.catchType (.cls c) := (resolveClass_links e.toSetting hr).op rfl
  cases hfit : (s.vm.noted f.method.cls x.catchType (.cls c)).assignable cell.cls c <;>
    simp [findHandler.go, hx, h0, hg, hcell, hobj, hk, hc, hfit, VmOp.dirties, VmOp.acts]
end ZF
section ZG
variable {e : Env} {f : JFrame} {a : Addr} {s T : State} {args : Array Value}
/-- the search through the rows l, from the tables vm -/
def zGo (e : Env) (T : State) (vm : Vm) (f : JFrame) (a : Addr) (l : List ExceptionTableEntry) (h : Handler) (vm' : Vm) : Prop :=
  ∀ (Q : Handler → Pre) (E : CtlPost) (d : Bool) (acts : List Action), wp (findHandler.go f a l) Q E e d acts (T.setVm vm) ↔ Q h d acts (T.setVm vm')
theorem zGo_skip {vm vm' : Vm} {x : ExceptionTableEntry} {t : List ExceptionTableEntry} {h : Handler} (hx : covers x f.pc = false) (k : zGo e T vm f a t h vm') : zGo e T vm f a (x :: t) h vm' :=
  fun Q E d acts => (W.findHandler_go_skip hx).trans (k Q E d acts)
/-- what a row with a catch type asks: its link; what is thrown is of the class CX -/
theorem zGo_row {vm : Vm} {x : ExceptionTableEntry} {t : List ExceptionTableEntry} {own C CX : String} {cell : Cell} {cX cC : ClassId} (hpl : e.platform.magicAccessors = ({} : Platform).magicAccessors) (hW : s.WarmedH vm) (hown : s.vm.findClass own = some f.method.cls) (hl : (Cond.classLink own x.catchType C).before args s = true)
    (hx : covers x f.pc = true) (h0 : x.catchType ≠ 0) (hcell : T.heap[a]? = some cell) (hobj : cell.vm.isStatics = false) (hcX : s.vm.findClass CX = some cX) (hc : cell.cls = cX) (hcC : s.vm.findClass C = some cC) :
    ∃ vm', s.WarmedH vm' ∧ ∀ (Q : Handler → Pre) (E : CtlPost) (d : Bool) (acts : List Action), wp (findHandler.go f a (x :: t)) Q E e d acts (T.setVm vm) ↔ if s.vm.assignable cX cC = true then Q (.found x.handlerPc) d acts (T.setVm vm') else wp (findHandler.go f a t) Q E e d acts (T.setVm vm') := by
  obtain ⟨c', hc', hcl⟩ := Cond.classLink_spec hown hl e.platform hpl
  cases hcC.symm.trans hc'
  obtain ⟨dk, _, _, kt, hd, _, _, _, _, hkt, _, hopen⟩ := hcl.here
  have hcl₀ := hW.classLinks hcl
  have hW' : s.WarmedH (vm.noted f.method.cls x.catchType (.cls cC)) := hW.noted hd hopen (State.rightAt_cls hcl)
  obtain ⟨kX, hkX⟩ := Vm.classAt_of_findClass hcX
  subst hc
  refine ⟨_, hW', fun Q E d acts => ?_⟩
  obtain ⟨kX', hkX', -⟩ := hW'.alike.2.2 _ _ hkX
  obtain ⟨kC', hkC', -⟩ := hW'.alike.2.2 _ _ hkt
  have := z_go_cls (E := E) (d := d) (acts := acts) (s := T.setVm vm) (Q := Q) (t := t) hx h0 hcl₀ hcell (VmData.noStatics_of hobj) ⟨_, hkX'⟩ ⟨_, hkC'⟩
  rw [show ((T.setVm vm).vm.noted f.method.cls x.catchType (.cls cC)).assignable cell.cls cC = s.vm.assignable cell.cls cC from hW'.alike.assignable _ _] at this
  exact this
theorem zGo_hit {vm : Vm} {x : ExceptionTableEntry} {t : List ExceptionTableEntry} {own C CX : String} {cell : Cell} (hpl : e.platform.magicAccessors = ({} : Platform).magicAccessors) (hW : s.WarmedH vm) (hown : s.vm.findClass own = some f.method.cls) (hl : (Cond.classLink own x.catchType C).before args s = true)
    (hx : covers x f.pc = true) (h0 : x.catchType ≠ 0) (hcell : T.heap[a]? = some cell) (hobj : cell.vm.isStatics = false) (hcX : s.vm.findClass CX = some cell.cls) (hy : va_Nw (.castable CX C) s) :
    ∃ vm', s.WarmedH vm' ∧ zGo e T vm f a (x :: t) (.found x.handlerPc) vm' := by
  obtain ⟨c1, c2, h1, h2, h3⟩ := Cond.castable_spec hy
  cases hcX.symm.trans h1
  obtain ⟨vm', hW', k⟩ := zGo_row (s := s) (T := T) (t := t) hpl hW hown hl hx h0 hcell hobj hcX rfl h2
  refine ⟨vm', hW', fun Q E d acts => ?_⟩
  rw [k Q E d acts, if_pos h3]
theorem zGo_pass {vm : Vm} {x : ExceptionTableEntry} {t : List ExceptionTableEntry} {own C CX : String} {cell : Cell} {h : Handler} (hpl : e.platform.magicAccessors = ({} : Platform).magicAccessors) (hW : s.WarmedH vm) (hown : s.vm.findClass own = some f.method.cls) (hl : (Cond.classLink own x.catchType C).before args s = true)
    (hx : covers x f.pc = true) (h0 : x.catchType ≠ 0) (hcell : T.heap[a]? = some cell) (hobj : cell.vm.isStatics = false) (hcX : s.vm.findClass CX = some cell.cls) (hy : va_Nc CX C s)
    (k : ∀ vm', s.WarmedH vm' → ∃ vm'', s.WarmedH vm'' ∧ zGo e T vm' f a t h vm'') : ∃ vm', s.WarmedH vm' ∧ zGo e T vm f a (x :: t) h vm' := by
  obtain ⟨c1, c2, h1, h2, h3⟩ := hy
  cases hcX.symm.trans h1
  obtain ⟨vm', hW', k1⟩ := zGo_row (s := s) (T := T) (t := t) hpl hW hown hl hx h0 hcell hobj hcX rfl h2
  obtain ⟨vm'', hW'', k2⟩ := k vm' hW'
  refine ⟨vm'', hW'', fun Q E d acts => ?_⟩
  rw [k1 Q E d acts, if_neg (by rw [h3]; decide)]
  exact k2 Q E d acts
/-- one step of the unwinding: into the handler -/
theorem z_catch {r : List Frame} {pc : Nat} {vm' : Vm} (hfind : zFd e T vm' f a (.found pc)) :
    (stepThrowing e T a (.java f :: r)).Is ((T.setVm vm').setFrames (.java { f with pc := pc, stack := [.ref a] } :: r)) [] := by
  simp only [stepThrowing, searchFrame, vmDo]
  generalize hr : Sem.go _ e false [] T = res
  obtain ⟨as, rfl, ha⟩ := Sem.eq_ok_of hr (a := Handler.found pc) (s' := T.setVm vm') (acts' := []) (by simp [hfind _ _ _ _])
  exact ⟨rfl, ha⟩
end ZG
section ZW
variable {p : Program} {l : Launch} {e : Env} {R : Room} {s : State} {m : MethodId} {args : Array Value} {below : List Frame} {meth : Method} {c : Code} {H : Heap} {locs : List Loc} {cells slots : Nat} {Q : State → Prop}
/-- the machine, now throwing x over the frame g, comes to a state with Q -/
def WT (p : Program) (l : Launch) (e : Env) (R : Room) (s : State) (m : MethodId) (args : Array Value) (below : List Frame) (meth : Method) (c : Code) (H : Heap) (locs : List Loc) (cells slots : Nat) (Q : State → Prop) (g : JFrame) (x : Nat) : Prop :=
  ∀ T : State, T.heap = H → Stand p l e R s m args below meth c T locs cells slots → ∃ t, Steps p.tables e below ((T.setTop g).pushFrame (.throwing x)) t ∧ Q t
theorem W.mono {Q' : State → Prop} {g : JFrame} (h : ∀ t, Q t → Q' t) (k : W p l e R s m args below meth c H locs cells slots Q g) : W p l e R s m args below meth c H locs cells slots Q' g := by
  intro T hT X
  obtain ⟨t, a, b⟩ := k T hT X
  exact ⟨t, a, h t b⟩
theorem WT.widen {g : JFrame} {x k n : Nat} (h1 : cells ≤ k) (h2 : slots ≤ n) (kk : WT p l e R s m args below meth c H locs k n Q g x) : WT p l e R s m args below meth c H locs cells slots Q g x := fun T hT X => kk T hT (stand_widen X h1 h2)
variable {cc : ByteArray} {pc : Nat} {ls : Array Slot} {rest st : List Value}
theorem z_athrow (hexec : p.tables.exec = Jvm.exec) (hb : c.code = cc) {x : Nat} (hdg : decode cc pc = .ok (.athrow, 1)) (k : WT p l e R s m args below meth c H locs cells slots Q (F0 m pc ls rest) x) : W p l e R s m args below meth c H locs cells slots Q (F0 m pc ls (.ref x :: rest)) := by
  intro T hT X
  obtain ⟨t, a, b⟩ := k T hT X
  refine ⟨t, ?_, b⟩
  jvm_step X.here [hexec, hb, hdg, athrow.wp_sem]
  exact a
/-- caught by a handler of the method's own -/
theorem z_caught {x pc' : Nat} (hf : ∀ T : State, T.heap = H → s.WarmedH T.vm → ∃ vm', s.WarmedH vm' ∧ zGo e ((T.setTop (F0 m pc ls st)).pushFrame (.throwing x)) T.vm (F0 m pc ls st) x c.exceptionTable.toList (.found pc') vm')
    (k : W p l e R s m args below meth c H locs cells slots Q (F0 m pc' ls [.ref x])) : WT p l e R s m args below meth c H locs cells slots Q (F0 m pc ls st) x := by
  intro T hT X
  obtain ⟨vm', hW', hgo⟩ := hf T hT X.warmed
  obtain ⟨t, a1, b1⟩ := k (T.setVm vm') hT (X.noted hW')
  refine ⟨t, ?_, b1⟩
  have h : At T m c below := X.here
  obtain ⟨hg, hw⟩ := At.throwing (g := F0 m pc ls st) h x
  refine Steps.head hg hw ?_
  have hfd : zFd e ((T.setTop (F0 m pc ls st)).pushFrame (.throwing x)) vm' (F0 m pc ls st) x (.found pc') := by
    intro Q E d acts
    rw [W.findHandler_eq (meth := meth) (code := c) (by rw [Stand.throwing_vm]; exact X.method') X.code]
    have := hgo Q E d acts
    rw [show ((T.setTop (F0 m pc ls st)).pushFrame (.throwing x)).setVm T.vm = (T.setTop (F0 m pc ls st)).pushFrame (.throwing x) from rfl] at this
    exact this
  rw [stepThread_throwing (frames_entered h.top _), (z_catch hfd).1]
  obtain ⟨g₀, hg0⟩ := Option.isSome_iff_exists.mp h.top
  obtain ⟨r, hr⟩ := State.topJava?_eq_some.mp hg0
  have hr' : (T.setVm vm').frames = .java g₀ :: r := hr
  rw [State.setTop_of_frames _ hr'] at a1
  rw [State.pushFrame, State.setTop_of_frames _ hr, State.setFrames_setFrames]
  rw [hr]
  rw [show ∀ fs : List Frame, (T.setFrames fs).setVm vm' = (T.setVm vm').setFrames fs from fun _ => rfl, State.setFrames_setFrames]
  exact a1
end ZW
