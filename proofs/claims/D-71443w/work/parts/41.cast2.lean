/-! the failing checkcast as a row -/
set_option maxRecDepth 100000
theorem z_prim {vm : Vm} {c0 : ClassId} {k : Class} {i : Nat} {comp : ClassId} {t : FieldType} (hf : vm.findClass (zcn i) = some c0) (hk : vm.classes[c0]? = some k) (hkind : k.kind = .array comp t) : k.name = zcn i ∧ k.hidden = none ∧ k.loader = none ∧ k.ofPrimitives = true := by
  obtain ⟨h1, h2, h3⟩ := First.findClass_facts hf hk
  refine ⟨h1, h2, h3, ?_⟩
  unfold Class.ofPrimitives
  rw [hkind, h1]
  match i with
  | 0 => exact (by decide +kernel : ((withoutBrackets "[B").length == 1) = true)
  | 1 => exact (by decide +kernel : ((withoutBrackets "[S").length == 1) = true)
  | n + 2 => exact (by decide +kernel : ((withoutBrackets "[I").length == 1) = true)
section ZC
variable {p : Program} {l : Launch} {e : Env} {R : Room} {s : State} {m : MethodId} {args : Array Value} {below : List Frame} {meth : Method} {c : Code} {H : Heap} {locs : List Loc} {cells slots : Nat} {Q : State → Prop}
variable {cc : ByteArray} {pc : Nat} {ls : Array Slot} {rest st0 : List Value} {D : va_G} {A : Nat → Prop} {ws : va_W} {kk : Nat → ClassId} {a : Nat}
set_option maxHeartbeats 4000000 in
theorem z_castNo {own : String} {index i j : Nat} (hx : p.tables.exec = Jvm.exec) (hb : c.code = cc) (hh : zH l s args A) (hown : s.vm.findClass own = some m.cls) (hlink : (Cond.classLink own index (zcn j)).before args s = true) (hK : va_K D vwCl (zT kk) s) (hc : va_Nc (zcn i) (zcn j) s) (hr : ∃ cell : Cell, H[a]? = some cell ∧ cell.vm.isStatics = false ∧ s.vm.findClass (zcn i) = some cell.cls)
    (hsz : ls.size = c.maxLocals) (hf : 8 ≤ R.frames) (hlo : (((.ref a : Value) :: rest).map fun v => v.category).sum + 10240 ≤ R.locals) (hcl : cells + 3 ≤ R.cells) (hs : slots + 222 ≤ R.slots) (hP : va_P D vwCl ws H) (hS : va_S A s.heap H locs) (hdg : decode cc pc = .ok (.checkcast index, 3))
    (k : ∀ (H1 : Heap) (x : Nat), va_P D vwCl ws H1 → va_S A s.heap H1 locs → (∃ cell : Cell, H1[x]? = some cell ∧ cell.vm.isStatics = false ∧ s.vm.findClass "java/lang/ClassCastException" = some cell.cls) → WT p l e R s m args below meth c H1 locs (cells + 3) (slots + 222) Q (F0 m pc ls (.ref a :: rest)) x) :
    W p l e R s m args below meth c H locs cells slots Q (F0 m pc ls (.ref a :: rest)) := by
  intro T hT X
  obtain ⟨cell, h1, h2, h3⟩ := hr
  obtain ⟨c0, t0, f1, f2, f3⟩ := hc
  cases h3.symm.trans f1
  have hpl : e.platform.magicAccessors = ({} : Platform).magicAccessors := by rw [X.admits.platform]
  obtain ⟨c', hc', hcl'⟩ := Cond.classLink_spec hown hlink e.platform hpl
  cases f2.symm.trans hc'
  obtain ⟨dk, _, _, kt, hd, _, _, _, _, hkt, _, hopen⟩ := hcl'.here
  have hcl₀ := X.warmed.classLinks hcl'
  have hW' : s.WarmedH (T.vm.noted m.cls index (.cls t0)) := X.warmed.noted hd hopen (State.rightAt_cls hcl')
  have ai : s.isArrayOf (arrV (kk (zk i)) 0 (fun _ => .int 0)) (zft i) := (hK.2 (zk i) _ (z_tk kk i)).1 0 _
  have aj : s.isArrayOf (arrV (kk (zk j)) 0 (fun _ => .int 0)) (zft j) := (hK.2 (zk j) _ (z_tk kk j)).1 0 _
  have ei : kk (zk i) = cell.cls := Option.some.inj ((z_cn hK i).symm.trans f1)
  have ej : kk (zk j) = t0 := Option.some.inj ((z_cn hK j).symm.trans f2)
  obtain ⟨-, ks, hks, ci, hki⟩ := ai
  obtain ⟨-, kt2, hkt2, cj, hkj⟩ := aj
  have hks : s.vm.classes[cell.cls]? = some ks := by rw [← ei]; exact hks
  have hkt2 : s.vm.classes[t0]? = some kt2 := by rw [← ej]; exact hkt2
  cases hkt2.symm.trans hkt
  obtain ⟨ks', hks', es⟩ := hW'.alike.2.2 _ _ hks
  obtain ⟨kt', hkt', et⟩ := hW'.alike.2.2 _ _ hkt
  obtain ⟨p1, p2, p3, p4⟩ := z_prim (i := i) (by rw [hW'.alike.findClass]; exact f1) hks' (by rw [es]; exact hki)
  obtain ⟨r1, r2, r3, r4⟩ := z_prim (i := j) (by rw [hW'.alike.findClass]; exact f2) hkt' (by rw [et]; exact hkj)
  have X' := X.noted hW'
  obtain ⟨b1, b2⟩ := z_ccText i j _ (z_ccMsg (T.vm.noted m.cls index (.cls t0)) ks' kt' p1 p2 p3 p4 r1 r2 r3 r4)
  obtain ⟨T2, x, cell2, X2, q1, q2, q3, q4, q5, q6, hgo⟩ := z_msgRise (g := F0 m pc ls (.ref a :: rest)) (n := 222) X' hx (by rw [X.admits.platform]; exact hh.1) (names := ["java/lang/RuntimeException", "java/lang/Exception"]) (cls := "java/lang/ClassCastException") (by decide) (by decide) (by decide) (by decide) (z_atoms _ z_cceL hh.2.1 hh.2.2.1 hh.2.2.2.1) (fun y hy cell hc => hh.2.2.2.2.2 _ (hS.2.2 y hy) cell hc) b2 (by rw [Launch.admits_arrayLengthLimit X.admits]; omega) (by rw [Launch.admits_maxHeapBytes X.admits]; simp only [componentBytes]; omega) rfl hsz (by omega) (by show 2 + 4 < _; omega) (by show 2 * 0 + (((.ref a : Value) :: rest).map fun v => v.category).sum + 10240 ≤ _; omega) (by decide) hcl hs
  have hTn : (T.setVm (T.vm.noted m.cls index (.cls t0))).heap = H := hT
  rw [hTn] at q1 q2
  have hP2 : va_P D vwCl ws T2.heap := hP.kept (fun k q hq => q2 q.1 ((hP k q hq).lt))
  have hS2 : va_S A s.heap T2.heap locs := ⟨Nat.le_trans hS.1 q1, fun q a b => (q2 q (Nat.lt_of_lt_of_le a hS.1)).trans (hS.2.1 q a b), hS.2.2⟩
  obtain ⟨t, a1, a2⟩ := k T2.heap x hP2 hS2 ⟨cell2, q4, q5, q6⟩ T2 rfl X2
  refine ⟨t, ?_, a2⟩
  have hrest := hgo t a1
  have hcode : decode c.code (F0 m pc ls (.ref a :: rest)).pc = .ok (.checkcast index, 3) := by rw [hb]; exact hdg
  jvm_step X.here [hx, hcode, Op.checkcast.wp_cold (e := e) (s := T) (f := F0 m pc ls (.ref a :: rest)) X.here.top rfl (resolveClass_links e.toSetting hcl₀) hcl₀.ready,
    Op.checkcast.wp_ready (e := e) (s := T.setVm (T.vm.noted m.cls index (.cls t0))) (f := F0 m pc ls (.ref a :: rest)) X.here.top hcl₀.ready rfl]
  refine ⟨cell, by rw [hT]; exact h1, VmData.noStatics_of h2, ks', hks', kt', hkt', ?_⟩
  rw [if_neg (by rw [hW'.alike.assignable, f3]; decide)]
  exact hrest
end ZC
