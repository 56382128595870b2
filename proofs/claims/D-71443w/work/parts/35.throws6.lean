/-! THROWS 6: the W rows of the machine's own exceptions -/
set_option maxRecDepth 100000
/-- the text of an index that is out of bounds -/
abbrev zIx (i : Int32) (n : Nat) : String := toString "Index " ++ toString i ++ toString " out of bounds for length " ++ toString n
section ZV
variable {p : Program} {l : Launch} {e : Env} {R : Room} {s : State} {m : MethodId} {args : Array Value} {below : List Frame} {meth : Method} {c : Code} {H : Heap} {locs : List Loc} {cells slots : Nat} {Q : State → Prop}
variable {cc : ByteArray} {pc : Nat} {ls : Array Slot} {rest st0 : List Value} {D : va_G} {A : Nat → Prop} {ws : va_W}
/-- what a method that may see such an exception has at hand -/
abbrev zH (l : Launch) (s : State) (args : Array Value) (A : Nat → Prop) : Prop := l.stackTraces = false ∧ (∀ w ∈ lw_all, w.before args s = true) ∧ zN s ∧ zY s ∧ (∀ q : Nat, s.heap.size ≤ q → A q) ∧ (∀ q : Nat, A q → ∀ cell : Cell, s.heap[q]? = some cell → cell.vm.isStatics = false)
theorem z_vm {k n : Nat} {note : Frame} {cls : String} {g : JFrame} (hh : zH l s args A)
    (hstep : ∀ T : State, T.heap = H → Stand p l e R s m args below meth c T locs cells slots → ∀ target, Steps p.tables e below ((T.setTop (F0 m pc ls rest)).pushFrame note) target → Steps p.tables e below (T.setTop g) target)
    (hrise : (∀ x ∈ locs, ∀ cell, s.heap[x.base]? = some cell → cell.vm.isStatics = false) → ∀ T : State, T.heap = H → Stand p l e R s m args below meth c T locs cells slots → zRise p l e R s m args below meth c T locs cells slots k n (F0 m pc ls rest) note cls)
    (hP : va_P D vwCl ws H) (hS : va_S A s.heap H locs)
    (kk : ∀ (H1 : Heap) (x : Nat), va_P D vwCl ws H1 → va_S A s.heap H1 locs → (∃ cell : Cell, H1[x]? = some cell ∧ cell.vm.isStatics = false ∧ s.vm.findClass cls = some cell.cls) → WT p l e R s m args below meth c H1 locs (cells + k) (slots + n) Q (F0 m pc ls rest) x) :
    W p l e R s m args below meth c H locs cells slots Q g := by
  intro T hT X
  obtain ⟨T2, x, cell, X2, h1, h2, h3, h4, h5, h6, hgo⟩ := hrise (fun y hy cell hc => hh.2.2.2.2.2 _ (hS.2.2 y hy) cell hc) T hT X
  rw [hT] at h1 h2
  have hP2 : va_P D vwCl ws T2.heap := hP.kept (fun k q hq => h2 q.1 ((hP k q hq).lt))
  have hS2 : va_S A s.heap T2.heap locs := ⟨Nat.le_trans hS.1 h1, fun q a b => (h2 q (Nat.lt_of_lt_of_le a hS.1)).trans (hS.2.1 q a b), hS.2.2⟩
  obtain ⟨t, a, b⟩ := kk T2.heap x hP2 hS2 ⟨cell, h4, h5, h6⟩ T2 rfl X2
  exact ⟨t, hstep T hT X t (hgo t a), b⟩
theorem z_npe (hx : p.tables.exec = Jvm.exec) (hh : zH l s args A) (hsz : ls.size = c.maxLocals) (hf : 8 ≤ R.frames) (hlo : (rest.map fun v => v.category).sum + 10240 ≤ R.locals) (hc : cells + 1 ≤ R.cells) (hs : slots + 8 ≤ R.slots) :
    (∀ x ∈ locs, ∀ cell, s.heap[x.base]? = some cell → cell.vm.isStatics = false) → ∀ T : State, T.heap = H → Stand p l e R s m args below meth c T locs cells slots → zRise p l e R s m args below meth c T locs cells slots 1 8 (F0 m pc ls rest) (.throwNew "java/lang/NullPointerException" none none) "java/lang/NullPointerException" :=
  fun hl T _ X => z_npeRise X hx (by rw [X.admits.platform]; exact hh.1) (z_atoms _ z_npeL hh.2.1 hh.2.2.1 hh.2.2.2.1) hl rfl hsz hf (by show 2 * 0 + (rest.map fun v => v.category).sum + 10240 ≤ _; omega) hc hs
theorem z_idx (hx : p.tables.exec = Jvm.exec) (hh : zH l s args A) (hsz : ls.size = c.maxLocals) (i : Int32) {n : Nat} (hn : n < 2 ^ 31) (hf : 8 ≤ R.frames) (hlo : (rest.map fun v => v.category).sum + 10240 ≤ R.locals) (hc : cells + 3 ≤ R.cells) (hs : slots + 222 ≤ R.slots) :
    (∀ x ∈ locs, ∀ cell, s.heap[x.base]? = some cell → cell.vm.isStatics = false) → ∀ T : State, T.heap = H → Stand p l e R s m args below meth c T locs cells slots → zRise p l e R s m args below meth c T locs cells slots 3 222 (F0 m pc ls rest) (.throwNew "java/lang/ArrayIndexOutOfBoundsException" (some (zIx i n)) none) "java/lang/ArrayIndexOutOfBoundsException" :=
  fun hl T _ X => by
    have hb := index_text_bytes i hn
    exact z_msgRise X hx (by rw [X.admits.platform]; exact hh.1) (names := ["java/lang/IndexOutOfBoundsException", "java/lang/RuntimeException", "java/lang/Exception"]) (by decide) (by decide) (by decide) (by decide) (z_atoms _ z_idxL hh.2.1 hh.2.2.1 hh.2.2.2.1) hl (index_text_modelled i n) (by rw [Launch.admits_arrayLengthLimit X.admits]; omega) (by rw [Launch.admits_maxHeapBytes X.admits]; simp only [componentBytes]; omega) rfl hsz (by omega) (by show 3 + 4 < _; omega) (by show 2 * 0 + (rest.map fun v => v.category).sum + 10240 ≤ _; omega) (by decide) hc hs
theorem z_neg (hx : p.tables.exec = Jvm.exec) (hh : zH l s args A) (hsz : ls.size = c.maxLocals) {i : Int32} (hi : i < 0) (hf : 8 ≤ R.frames) (hlo : (rest.map fun v => v.category).sum + 10240 ≤ R.locals) (hc : cells + 3 ≤ R.cells) (hs : slots + 222 ≤ R.slots) :
    (∀ x ∈ locs, ∀ cell, s.heap[x.base]? = some cell → cell.vm.isStatics = false) → ∀ T : State, T.heap = H → Stand p l e R s m args below meth c T locs cells slots → zRise p l e R s m args below meth c T locs cells slots 3 222 (F0 m pc ls rest) (.throwNew "java/lang/NegativeArraySizeException" (some (toString i)) none) "java/lang/NegativeArraySizeException" :=
  fun hl T _ X => by
    have hb := negative_text_bytes i
    exact z_msgRise X hx (by rw [X.admits.platform]; exact hh.1) (names := ["java/lang/RuntimeException", "java/lang/Exception"]) (by decide) (by decide) (by decide) (by decide) (z_atoms _ z_negL hh.2.1 hh.2.2.1 hh.2.2.2.1) hl (negative_text_modelled hi) (by rw [Launch.admits_arrayLengthLimit X.admits]; omega) (by rw [Launch.admits_maxHeapBytes X.admits]; simp only [componentBytes]; omega) rfl hsz (by omega) (by show 2 + 4 < _; omega) (by show 2 * 0 + (rest.map fun v => v.category).sum + 10240 ≤ _; omega) (by decide) hc hs
variable {a : Nat} {kk : Nat → ClassId}
/-- null arrays -/
theorem z_null {i : Instr} {st : List Value} (hx : p.tables.exec = Jvm.exec) (hb : c.code = cc) (hh : zH l s args A) (hsz : ls.size = c.maxLocals) (hf : 8 ≤ R.frames) (hlo : (rest.map fun v => v.category).sum + 10240 ≤ R.locals) (hc : cells + 1 ≤ R.cells) (hs : slots + 8 ≤ R.slots) (hP : va_P D vwCl ws H) (hS : va_S A s.heap H locs)
    (hi : (i = .baload ∧ ∃ j, st = .int j :: .null :: rest) ∨ (i = .saload ∧ ∃ j, st = .int j :: .null :: rest) ∨ (i = .iaload ∧ ∃ j, st = .int j :: .null :: rest) ∨ (i = .iastore ∧ ∃ x j, st = .int x :: .int j :: .null :: rest)) (hdg : decode cc pc = .ok (i, 1))
    (k : ∀ (H1 : Heap) (x : Nat), va_P D vwCl ws H1 → va_S A s.heap H1 locs → (∃ cell : Cell, H1[x]? = some cell ∧ cell.vm.isStatics = false ∧ s.vm.findClass "java/lang/NullPointerException" = some cell.cls) → WT p l e R s m args below meth c H1 locs (cells + 1) (slots + 8) Q (F0 m pc ls rest) x) :
    W p l e R s m args below meth c H locs cells slots Q (F0 m pc ls st) := by
  refine z_vm hh (fun T hT X target ht => ?_) (z_npe hx hh hsz hf hlo hc hs) hP hS k
  rcases hi with ⟨rfl, j, rfl⟩ | ⟨rfl, j, rfl⟩ | ⟨rfl, j, rfl⟩ | ⟨rfl, y, j, rfl⟩
  · exact X.baloadNull hx (g := F0 m pc ls (.int j :: .null :: rest)) rfl rfl (by rw [hb]; exact hdg) target ht
  · exact X.saloadNull hx (g := F0 m pc ls (.int j :: .null :: rest)) rfl rfl (by rw [hb]; exact hdg) target ht
  · exact X.ialoadNull hx (g := F0 m pc ls (.int j :: .null :: rest)) rfl rfl (by rw [hb]; exact hdg) target ht
  · exact X.iastoreNull hx (g := F0 m pc ls (.int y :: .int j :: .null :: rest)) rfl rfl (by rw [hb]; exact hdg) target ht
/-- an index outside an array of bytes, shorts, ints -/
theorem z_out {i : Instr} {st : List Value} {ty : FieldType} {n t0 q0 : Nat} {f : Nat → Int32} {kA : ClassId} {j : Int32} (hx : p.tables.exec = Jvm.exec) (hb : c.code = cc) (hh : zH l s args A) (hsz : ls.size = c.maxLocals) (hf : 8 ≤ R.frames) (hlo : (rest.map fun v => v.category).sum + 10240 ≤ R.locals) (hc : cells + 3 ≤ R.cells) (hs : slots + 222 ≤ R.slots) (hK : va_K D vwCl (zT kk) s) (hP : va_P D vwCl ws H) (hS : va_S A s.heap H locs)
    (ha : ws[q0]? = some (a, .inl (kA, n, .inl f))) (ht0 : (zT kk)[t0]? = some (kA, ty)) (hn : n < 2 ^ 31) (hout : ¬ vp_in j n)
    (hi : (i = .baload ∧ st = .int j :: .ref a :: rest) ∨ (i = .saload ∧ st = .int j :: .ref a :: rest) ∨ (i = .iaload ∧ st = .int j :: .ref a :: rest) ∨ (i = .bastore ∧ ∃ x, st = .int x :: .int j :: .ref a :: rest) ∨ (i = .sastore ∧ ∃ x, st = .int x :: .int j :: .ref a :: rest) ∨ (i = .iastore ∧ ∃ x, st = .int x :: .int j :: .ref a :: rest)) (hdg : decode cc pc = .ok (i, 1))
    (k : ∀ (H1 : Heap) (x : Nat), va_P D vwCl ws H1 → va_S A s.heap H1 locs → (∃ cell : Cell, H1[x]? = some cell ∧ cell.vm.isStatics = false ∧ s.vm.findClass "java/lang/ArrayIndexOutOfBoundsException" = some cell.cls) → WT p l e R s m args below meth c H1 locs (cells + 3) (slots + 222) Q (F0 m pc ls rest) x) :
    W p l e R s m args below meth c H locs cells slots Q (F0 m pc ls st) := by
  have hcell : H[a]? = some (arrV kA n (fun j => .int (f j))) := hP q0 _ ha
  have harr : s.isArrayOf (arrV kA n (fun j => .int (f j))) ty := (hK.2 t0 _ ht0).1 n _
  have ho : j < 0 ∨ (arrV kA n (fun j => .int (f j))).slots.size ≤ j.toNatClampNeg := by rw [arrV_size]; exact Classical.byContradiction hout
  have hr := z_idx (p := p) (l := l) (e := e) (R := R) (s := s) (m := m) (args := args) (below := below) (meth := meth) (c := c) (H := H) (locs := locs) (cells := cells) (slots := slots) (pc := pc) (ls := ls) (rest := rest) (A := A) hx hh hsz j hn hf hlo hc hs
  refine z_vm hh (fun T hT X target ht => ?_) hr hP hS k
  have hz : (arrV kA n (fun j => .int (f j))).slots.size = n := arrV_size _ _ _
  rcases hi with ⟨rfl, rfl⟩ | ⟨rfl, rfl⟩ | ⟨rfl, rfl⟩ | ⟨rfl, y, rfl⟩ | ⟨rfl, y, rfl⟩ | ⟨rfl, y, rfl⟩
  · exact X.baloadOut hx (by rw [hT]; exact hcell) harr ho (g := F0 m pc ls (.int j :: .ref a :: rest)) rfl rfl (by rw [hb]; exact hdg) target (by rw [hz]; exact ht)
  · exact X.saloadOut hx (by rw [hT]; exact hcell) harr ho (g := F0 m pc ls (.int j :: .ref a :: rest)) rfl rfl (by rw [hb]; exact hdg) target (by rw [hz]; exact ht)
  · exact X.ialoadOut hx (by rw [hT]; exact hcell) harr ho (g := F0 m pc ls (.int j :: .ref a :: rest)) rfl rfl (by rw [hb]; exact hdg) target (by rw [hz]; exact ht)
  · exact X.bastoreOut hx (by rw [hT]; exact hcell) harr ho (g := F0 m pc ls (.int y :: .int j :: .ref a :: rest)) rfl rfl (by rw [hb]; exact hdg) target (by rw [hz]; exact ht)
  · exact X.sastoreOut hx (by rw [hT]; exact hcell) harr ho (g := F0 m pc ls (.int y :: .int j :: .ref a :: rest)) rfl rfl (by rw [hb]; exact hdg) target (by rw [hz]; exact ht)
  · exact X.iastoreOut hx (by rw [hT]; exact hcell) harr ho (g := F0 m pc ls (.int y :: .int j :: .ref a :: rest)) rfl rfl (by rw [hb]; exact hdg) target (by rw [hz]; exact ht)
/-- a new array of negative length -/
theorem z_newneg {atype : ArrayType} {i : Int32} (hx : p.tables.exec = Jvm.exec) (hb : c.code = cc) (hh : zH l s args A) (hsz : ls.size = c.maxLocals) (hf : 8 ≤ R.frames) (hlo : (rest.map fun v => v.category).sum + 10240 ≤ R.locals) (hc : cells + 3 ≤ R.cells) (hs : slots + 222 ≤ R.slots) (hP : va_P D vwCl ws H) (hS : va_S A s.heap H locs) (hi : i < 0) (hdg : decode cc pc = .ok (.newarray atype, 2))
    (k : ∀ (H1 : Heap) (x : Nat), va_P D vwCl ws H1 → va_S A s.heap H1 locs → (∃ cell : Cell, H1[x]? = some cell ∧ cell.vm.isStatics = false ∧ s.vm.findClass "java/lang/NegativeArraySizeException" = some cell.cls) → WT p l e R s m args below meth c H1 locs (cells + 3) (slots + 222) Q (F0 m pc ls rest) x) :
    W p l e R s m args below meth c H locs cells slots Q (F0 m pc ls (.int i :: rest)) :=
  z_vm hh (fun T hT X target ht => X.newarrayNegative hx (g := F0 m pc ls (.int i :: rest)) rfl hi rfl (by rw [hb]; exact hdg) target ht) (z_neg hx hh hsz hi hf hlo hc hs) hP hS k
end ZV
