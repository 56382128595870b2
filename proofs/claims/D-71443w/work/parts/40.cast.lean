/-! a checkcast that fails: arrays of bytes, shorts, ints -/
set_option maxRecDepth 100000
abbrev zMsg (a b h : String) : String := "class " ++ a ++ " cannot be cast to class " ++ b ++ " (" ++ (a ++ " and " ++ b ++ " are in " ++ (h ++ " of loader " ++ "'bootstrap'")) ++ ")"
theorem z_ccMsg (vm : Vm) (ks kt : Class) {a b : String} (h1 : ks.name = a) (h2 : ks.hidden = none) (h3 : ks.loader = none) (h4 : ks.ofPrimitives = true) (g1 : kt.name = b) (g2 : kt.hidden = none) (g3 : kt.loader = none) (g4 : kt.ofPrimitives = true) :
    Op.checkcast.message vm ks kt = zMsg (dotted a) (dotted b) "module java.base" ∨ Op.checkcast.message vm ks kt = zMsg (dotted a) (dotted b) "unnamed module" := by
  have e1 : ks.shown = dotted a := by unfold Class.shown; rw [h2, h1]
  have e2 : kt.shown = dotted b := by unfold Class.shown; rw [g2, g1]
  have m1 : vm.moduleOf ks = vm.modules.find? (·.name == "java.base") := by unfold Vm.moduleOf; rw [if_pos h4]
  have m2 : vm.moduleOf kt = vm.modules.find? (·.name == "java.base") := by unfold Vm.moduleOf; rw [if_pos g4]
  unfold Op.checkcast.message Vm.homes Vm.home Vm.sameModule
  rw [m1, m2, e1, e2, h3, g3]
  cases hm : vm.modules.find? (·.name == "java.base") with
  | none => exact Or.inr rfl
  | some m =>
    have hn : m.name = "java.base" := by simpa using List.find?_some hm
    left
    simp only [beq_self_eq_true, if_true, hn]
    rfl
def zTx (t : String) : Bool := decide ((stringBytes (stringToUtf16 t)).size ≤ 212) && !(t == notModelled)
theorem z_tx : (["[B", "[S", "[I"].all fun a => ["[B", "[S", "[I"].all fun b => ["module java.base", "unnamed module"].all fun h => zTx (zMsg (dotted a) (dotted b) h)) = true := by decide +kernel
theorem z_cnm (i : Nat) : zcn i ∈ ["[B", "[S", "[I"] := by
  match i with
  | 0 => exact List.mem_cons_self
  | 1 => exact List.mem_cons_of_mem _ List.mem_cons_self
  | n + 2 => exact List.mem_cons_of_mem _ (List.mem_cons_of_mem _ List.mem_cons_self)
theorem z_ccText (i j : Nat) (t : String) (h : t = zMsg (dotted (zcn i)) (dotted (zcn j)) "module java.base" ∨ t = zMsg (dotted (zcn i)) (dotted (zcn j)) "unnamed module") : (stringBytes (stringToUtf16 t)).size ≤ 212 ∧ (t == notModelled) = false := by
  have q := List.all_eq_true.mp (List.all_eq_true.mp z_tx _ (z_cnm i)) _ (z_cnm j)
  have q2 : zTx t = true := by
    rcases h with rfl | rfl
    · exact List.all_eq_true.mp q _ List.mem_cons_self
    · exact List.all_eq_true.mp q _ (List.mem_cons_of_mem _ List.mem_cons_self)
  unfold zTx at q2
  rw [Bool.and_eq_true, decide_eq_true_eq, Bool.not_eq_true'] at q2
  exact q2
