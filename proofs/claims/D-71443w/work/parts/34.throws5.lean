/-! THROWS 5: what the machine's own exceptions ask, carried into the methods -/
set_option maxRecDepth 100000
def zDl : List Cond := [(Jvm.Cond.declares ({ cls := "java/lang/Exception", name := "<init>", desc := "()V" } : Jvm.MethodName)), (Jvm.Cond.declares ({ cls := "java/lang/Exception", name := "<init>", desc := "(Ljava/lang/String;)V" } : Jvm.MethodName)), (Jvm.Cond.declares ({ cls := "java/lang/Throwable", name := "<init>", desc := "()V" } : Jvm.MethodName)), (Jvm.Cond.declares ({ cls := "java/lang/Throwable", name := "<init>", desc := "(Ljava/lang/String;)V" } : Jvm.MethodName)), (Jvm.Cond.declares ({ cls := "java/lang/Throwable", name := "fillInStackTrace", desc := "()Ljava/lang/Throwable;" } : Jvm.MethodName)), (Jvm.Cond.declares ({ cls := "LoseLeague$Plain", name := "trains", desc := "()I" } : Jvm.MethodName)), (Jvm.Cond.declares ({ cls := "java/lang/RuntimeException", name := "<init>", desc := "()V" } : Jvm.MethodName)), (Jvm.Cond.declares ({ cls := "java/lang/RuntimeException", name := "<init>", desc := "(Ljava/lang/String;)V" } : Jvm.MethodName)), (Jvm.Cond.declares ({ cls := "java/lang/IndexOutOfBoundsException", name := "<init>", desc := "()V" } : Jvm.MethodName)), (Jvm.Cond.declares ({ cls := "java/lang/IndexOutOfBoundsException", name := "<init>", desc := "(Ljava/lang/String;)V" } : Jvm.MethodName))]
def zSt : List Cond := [.laysStatic "java/lang/Throwable" "UNASSIGNED_STACK" "[Ljava/lang/StackTraceElement;", .laysStatic "java/lang/Throwable" "SUPPRESSED_SENTINEL" "Ljava/util/List;", .isRef (.static "java/lang/Throwable" "UNASSIGNED_STACK" "[Ljava/lang/StackTraceElement;"), .isRef (.static "java/lang/Throwable" "SUPPRESSED_SENTINEL" "Ljava/util/List;")]
/-- pairs of which the first can't be cast to the second -/
def zNn : List (String × String) := [("[B", "[S"), ("[B", "[I"), ("[S", "[B"), ("[S", "[I"), ("[I", "[B"), ("[I", "[S"), ("java/lang/ArrayIndexOutOfBoundsException", "java/lang/NullPointerException"), ("java/lang/ArrayIndexOutOfBoundsException", "java/lang/ClassCastException"), ("java/lang/ClassCastException", "java/lang/NullPointerException")]
def zY (U : State) : Prop := (∀ w ∈ zDl, va_Nw w U) ∧ (∀ w ∈ zSt, w.before #[] U = true) ∧ (∀ q ∈ zNn, va_Nc q.1 q.2 U)
theorem z_lays {s U : State} {C n d : String} (hW : s.WarmedH U.vm) (hH : ∀ (a : Nat) (cell : Cell), s.heap[a]? = some cell → cell.vm.isStatics = true → U.heap[a]? = some cell) (h : (Cond.laysStatic C n d).before #[] s = true) : (Cond.laysStatic C n d).before #[] U = true := by
  obtain ⟨c, k, i, f, a, cell, h1, h2, h3, h4, h5, h6, h7, h8, h9⟩ := Cond.laysStatic_spec h
  have hs : (Cond.laysStatic C n d).before #[] (s.setVm U.vm) = true := Cond.laysStatic_setVm hW.alike h
  obtain ⟨c', k', i', f', a', cell', g1, g2, g3, g4, g5, g6, g7, g8, g9⟩ := Cond.laysStatic_spec hs
  exact Cond.laysStatic_of (s := U) g1 g2 g3 g4 (hH a' cell' g5 g6) g6 g7 g8 g9
theorem z_isref {s U : State} {C n d : String} (hW : s.WarmedH U.vm) (hH : ∀ (a : Nat) (cell : Cell), s.heap[a]? = some cell → cell.vm.isStatics = true → U.heap[a]? = some cell) (h : (Cond.laysStatic C n d).before #[] s = true) (hr : (Cond.isRef (.static C n d)).before #[] s = true) : (Cond.isRef (.static C n d)).before #[] U = true := by
  obtain ⟨c, k, i, f, a, cell, h1, h2, h3, h4, h5, h6, h7, h8, h9⟩ := Cond.laysStatic_spec h
  obtain ⟨k', hi', he⟩ := State.fieldFound?_setVm (s := s) (vm' := U.vm) hW.alike h2
  have hi' : U.fieldFound? C n d = some (c, k', i, f) := hi'
  have h4' : k'.statics = some a := by rw [he]; exact h4
  have h5' := hH a cell h5 h6
  simp only [Cond.before, Cond.holds, Cond.value] at hr ⊢
  have e1 : (Term.static C n d).eval #[] s none [] s = cell.slots[f.slot]? := by simp [Term.eval, State.fieldNamed?, h2, h3, h4, h5, h6]
  have e2 : (Term.static C n d).eval #[] U none [] U = cell.slots[f.slot]? := by simp [Term.eval, State.fieldNamed?, hi', h3, h4', h5', h6]
  rw [e1] at hr
  rw [e2]
  exact hr
theorem zY_warm {s U : State} (hW : s.WarmedH U.vm) (hH : ∀ (a : Nat) (cell : Cell), s.heap[a]? = some cell → cell.vm.isStatics = true → U.heap[a]? = some cell) (h : zY s) : zY U := by
  obtain ⟨h1, h2, h3⟩ := h
  refine ⟨fun w hw => ?_, ?_, fun q hq => (h3 q hq).moved hW.alike⟩
  · have q := h1 w hw
    simp only [zDl, List.mem_cons, List.not_mem_nil, or_false] at hw
    rcases hw with rfl | rfl | rfl | rfl | rfl | rfl | rfl | rfl | rfl | rfl <;> exact va_Nw.warmD hW q
  · have a1 := h2 _ (List.mem_cons_self)
    have a2 := h2 _ (List.mem_cons_of_mem _ List.mem_cons_self)
    have a3 := h2 _ (List.mem_cons_of_mem _ (List.mem_cons_of_mem _ List.mem_cons_self))
    have a4 := h2 _ (List.mem_cons_of_mem _ (List.mem_cons_of_mem _ (List.mem_cons_of_mem _ List.mem_cons_self)))
    exact List.forall_mem_cons.mpr ⟨z_lays hW hH a1, List.forall_mem_cons.mpr ⟨z_lays hW hH a2, List.forall_mem_cons.mpr ⟨z_isref hW hH a1 a3, List.forall_mem_cons.mpr ⟨z_isref hW hH a2 a4, fun _ h => absurd h List.not_mem_nil⟩⟩⟩⟩
theorem zY_same {u U : State} (h : u.vm = U.vm) (hh : U.heap = u.heap) (hY : zY u) : zY U := by
  obtain ⟨h1, h2, h3⟩ := hY
  have ha : u.vm.Alike U.vm := by rw [h]; exact Vm.Alike.refl _
  refine ⟨fun w hw => ?_, ?_, fun q hq => (h3 q hq).moved ha⟩
  · have q := h1 w hw
    refine va_Nw.same ?_ h q
    simp only [zDl, List.mem_cons, List.not_mem_nil, or_false] at hw
    rcases hw with rfl | rfl | rfl | rfl | rfl | rfl | rfl | rfl | rfl | rfl <;> rfl
  · intro w hw
    have q := h2 w hw
    have hf : ∀ C n d, U.fieldFound? C n d = u.fieldFound? C n d := fun C n d => by unfold State.fieldFound?; rw [h]
    simp only [zSt, List.mem_cons, List.not_mem_nil, or_false] at hw
    rcases hw with rfl | rfl | rfl | rfl <;> simpa only [Cond.before, Cond.holds, Cond.value, Term.eval, State.fieldNamed?, hf, hh, ← h] using q
/-- a list of words out of what a method has -/
theorem z_atoms {s : State} {args : Array Value} (L : List Cond) (hL : L.all (fun a => (decide (a ∈ lw_tbl) && goodWord a) || decide (a ∈ zNc) || decide (a ∈ zDl) || decide (a ∈ zSt)) = true) (hts : ∀ w ∈ lw_all, w.before args s = true) (hN : zN s) (hY : zY s) : ∀ a ∈ L, a.before args s = true := by
  intro a ha
  have h := List.all_eq_true.mp hL a ha
  simp only [Bool.or_eq_true, Bool.and_eq_true, decide_eq_true_eq] at h
  rcases h with ((⟨h, g⟩ | h) | h) | h
  · exact hts a (lw_g h g)
  · have q := hN.2.2.1 a h
    refine va_Nw.use ?_ q
    simp only [zNc, List.mem_cons, List.not_mem_nil, or_false] at h
    rcases h with rfl | rfl | rfl | rfl | rfl | rfl | rfl | rfl | rfl | rfl <;> rfl
  · have q := hY.1 a h
    refine va_Nw.use ?_ q
    simp only [zDl, List.mem_cons, List.not_mem_nil, or_false] at h
    rcases h with rfl | rfl | rfl | rfl | rfl | rfl | rfl | rfl | rfl | rfl <;> rfl
  · have q := hY.2.1 a h
    simp only [zSt, List.mem_cons, List.not_mem_nil, or_false] at h
    rcases h with rfl | rfl | rfl | rfl <;> exact q
theorem z_npeL : (Bundle.npeArmAtoms 8).all (fun a => (decide (a ∈ lw_tbl) && goodWord a) || decide (a ∈ zNc) || decide (a ∈ zDl) || decide (a ∈ zSt)) = true := by decide +kernel
theorem z_idxL : (Bundle.messageArmAtoms "java/lang/ArrayIndexOutOfBoundsException" ["java/lang/IndexOutOfBoundsException", "java/lang/RuntimeException", "java/lang/Exception"]).all (fun a => (decide (a ∈ lw_tbl) && goodWord a) || decide (a ∈ zNc) || decide (a ∈ zDl) || decide (a ∈ zSt)) = true := by decide +kernel
theorem z_cceL : (Bundle.messageArmAtoms "java/lang/ClassCastException" ["java/lang/RuntimeException", "java/lang/Exception"]).all (fun a => (decide (a ∈ lw_tbl) && goodWord a) || decide (a ∈ zNc) || decide (a ∈ zDl) || decide (a ∈ zSt)) = true := by decide +kernel
theorem z_negL : (Bundle.messageArmAtoms "java/lang/NegativeArraySizeException" ["java/lang/RuntimeException", "java/lang/Exception"]).all (fun a => (decide (a ∈ lw_tbl) && goodWord a) || decide (a ∈ zNc) || decide (a ∈ zDl) || decide (a ∈ zSt)) = true := by decide +kernel
