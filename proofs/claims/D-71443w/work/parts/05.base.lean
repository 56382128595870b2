/-! BASE: one class list, one list of array classes, a contract's start and end, a call in one row -/
set_option maxRecDepth 100000
def zT0 : u_T := fun _ => ("", "", "", false)
def zty0 : Nat → FieldType := fun _ => .int
theorem znm0 : ∀ a, a < 0 → ∀ b, b < 0 → a ≠ b → (zT0 a).2.1 ≠ (zT0 b).2.1 := fun a h => absurd h (Nat.not_lt_zero a)
theorem zty0_ok : ∀ k, k < 0 → parseFieldDescriptor (zT0 k).2.2.1 = some (zty0 k) := fun a h => absurd h (Nat.not_lt_zero a)
theorem zin0 {C : String} : ∀ w ∈ u_ws C zT0 0, w ∈ lw_all := fun w h => by simp [u_ws] at h
abbrev vwCl : List vw_C := [(RX0, TX0, 25), (RX1, zT0, 0), (RX2, zT0, 0), (RX3, zT0, 0), (RX4, zT0, 0), (RX5, TX5, 6), (RX6, TX6, 1), (RX7, TX7, 29), (RX8, TX8, 8), (RX9, TX9, 8)]
/-- the array classes: 0 byte, 1 int, 2 boolean, 3 short, 4 Plain[], 5 League[], 6 Sheet[] -/
abbrev zT (kk : Nat → ClassId) : List (ClassId × FieldType) := [(kk 0, .byte), (kk 1, .int), (kk 2, .boolean), (kk 3, .short), (kk 4, .object "LoseLeague$Plain"), (kk 5, .object "LoseLeague$League"), (kk 6, .object "LoseLeague$Sheet")]
/-- words that ride in no list: links between nest mates, casts -/
def zNf : List Cond := [(Jvm.Cond.fieldLinkNest "LoseLeague$Reader" (109 : Nat) "LoseLeague$League" "towns" "I" "LoseLeague"), (Jvm.Cond.fieldLinkNest "LoseLeague" (182 : Nat) "LoseLeague$League" "towns" "I" "LoseLeague"), (Jvm.Cond.fieldLinkNest "LoseLeague" (46 : Nat) "LoseLeague$League" "fixtures" "I" "LoseLeague"), (Jvm.Cond.fieldLinkNest "LoseLeague$Reader" (106 : Nat) "LoseLeague$League" "fixtures" "I" "LoseLeague"), (Jvm.Cond.fieldLinkNest "LoseLeague" (62 : Nat) "LoseLeague$League" "fixture" "[B" "LoseLeague"), (Jvm.Cond.fieldLinkNest "LoseLeague" (56 : Nat) "LoseLeague$League" "week" "I" "LoseLeague"), (Jvm.Cond.fieldLinkNest "LoseLeague" (59 : Nat) "LoseLeague$League" "off" "I" "LoseLeague"), (Jvm.Cond.fieldLinkNest "LoseLeague" (325 : Nat) "LoseLeague$Sheet" "cells" "Ljava/lang/Object;" "LoseLeague"), (Jvm.Cond.fieldLinkNest "LoseLeague$Reader" (35 : Nat) "LoseLeague" "tape" "[B" "LoseLeague"), (Jvm.Cond.fieldLinkNest "LoseLeague" (176 : Nat) "LoseLeague$Fault" "code" "I" "LoseLeague"), (Jvm.Cond.fieldLinkNest "LoseLeague" (179 : Nat) "LoseLeague$Fault" "place" "I" "LoseLeague"), (Jvm.Cond.fieldLinkNest "LoseLeague" (162 : Nat) "LoseLeague$Reader" "made" "LLoseLeague$League;" "LoseLeague")]
def zNm : List Cond := [(Jvm.Cond.methodLinkNest "LoseLeague" (98 : Nat) ({ cls := "LoseLeague$Plain", name := "<init>", desc := "()V" } : Jvm.MethodName) "LoseLeague"), (Jvm.Cond.methodLinkNest "LoseLeague" (101 : Nat) ({ cls := "LoseLeague$Proud", name := "<init>", desc := "()V" } : Jvm.MethodName) "LoseLeague"), (Jvm.Cond.methodLinkNest "LoseLeague$Proud" (1 : Nat) ({ cls := "LoseLeague$Plain", name := "<init>", desc := "()V" } : Jvm.MethodName) "LoseLeague"), (Jvm.Cond.methodLinkNest "LoseLeague" (104 : Nat) ({ cls := "LoseLeague$Wise", name := "<init>", desc := "()V" } : Jvm.MethodName) "LoseLeague"), (Jvm.Cond.methodLinkNest "LoseLeague$Wise" (1 : Nat) ({ cls := "LoseLeague$Plain", name := "<init>", desc := "()V" } : Jvm.MethodName) "LoseLeague"), (Jvm.Cond.methodLinkNest "LoseLeague" (107 : Nat) ({ cls := "LoseLeague$Careless", name := "<init>", desc := "()V" } : Jvm.MethodName) "LoseLeague"), (Jvm.Cond.methodLinkNest "LoseLeague$Careless" (1 : Nat) ({ cls := "LoseLeague$Wise", name := "<init>", desc := "()V" } : Jvm.MethodName) "LoseLeague"), (Jvm.Cond.methodLinkNest "LoseLeague" (108 : Nat) ({ cls := "LoseLeague$League", name := "<init>", desc := "()V" } : Jvm.MethodName) "LoseLeague"), (Jvm.Cond.methodLinkNest "LoseLeague" (141 : Nat) ({ cls := "LoseLeague$Sheet", name := "<init>", desc := "()V" } : Jvm.MethodName) "LoseLeague"), (Jvm.Cond.methodLinkNest "LoseLeague$Reader" (17 : Nat) ({ cls := "LoseLeague$League", name := "<init>", desc := "()V" } : Jvm.MethodName) "LoseLeague"), (Jvm.Cond.methodLinkNest "LoseLeague$Reader" (85 : Nat) ({ cls := "LoseLeague", name := "in", desc := "(JJJ)Z" } : Jvm.MethodName) "LoseLeague")]
def zNc : List Cond := [(Jvm.Cond.castable "LoseLeague$Fault" "LoseLeague$Fault"), (Jvm.Cond.castable "java/lang/NegativeArraySizeException" "java/lang/NegativeArraySizeException"), (Jvm.Cond.castable "java/lang/NullPointerException" "java/lang/NullPointerException"), (Jvm.Cond.castable "java/lang/RuntimeException" "java/lang/Throwable"), (Jvm.Cond.castable "java/lang/ArrayIndexOutOfBoundsException" "java/lang/ArrayIndexOutOfBoundsException"), (Jvm.Cond.castable "java/lang/ClassCastException" "java/lang/ClassCastException"), (Jvm.Cond.castable "java/lang/ArrayIndexOutOfBoundsException" "java/lang/IndexOutOfBoundsException"), (Jvm.Cond.castable "LoseLeague$Proud" "LoseLeague$Plain"), (Jvm.Cond.castable "LoseLeague$Wise" "LoseLeague$Plain"), (Jvm.Cond.castable "LoseLeague$Careless" "LoseLeague$Plain")]
def zN (U : State) : Prop := (∀ w ∈ zNf, va_Nw w U) ∧ (∀ w ∈ zNm, va_Nw w U) ∧ (∀ w ∈ zNc, va_Nw w U) ∧ va_AO "LoseLeague$Plain" U ∧ va_AO "LoseLeague$League" U ∧ va_AO "LoseLeague$Sheet" U
theorem zN_same {u U : State} (h : u.vm = U.vm) (hN : zN u) : zN U := by
  obtain ⟨h1, h2, h3, h4, h5, h6⟩ := hN
  have ha : u.vm.Alike U.vm := by rw [h]; exact Vm.Alike.refl _
  refine ⟨fun w hw => ?_, fun w hw => ?_, fun w hw => ?_, h4.moved ha, h5.moved ha, h6.moved ha⟩
  · have q := h1 w hw
    refine va_Nw.same ?_ h q
    simp only [zNf, List.mem_cons, List.not_mem_nil, or_false] at hw
    rcases hw with rfl | rfl | rfl | rfl | rfl | rfl | rfl | rfl | rfl | rfl | rfl | rfl <;> rfl
  · have q := h2 w hw
    refine va_Nw.same ?_ h q
    simp only [zNm, List.mem_cons, List.not_mem_nil, or_false] at hw
    rcases hw with rfl | rfl | rfl | rfl | rfl | rfl | rfl | rfl | rfl | rfl | rfl <;> rfl
  · have q := h3 w hw
    refine va_Nw.same ?_ h q
    simp only [zNc, List.mem_cons, List.not_mem_nil, or_false] at hw
    rcases hw with rfl | rfl | rfl | rfl | rfl | rfl | rfl | rfl | rfl | rfl <;> rfl
theorem zN_warm {s U : State} (hW : s.WarmedH U.vm) (hN : zN s) : zN U := by
  obtain ⟨h1, h2, h3, h4, h5, h6⟩ := hN
  refine ⟨fun w hw => ?_, fun w hw => ?_, fun w hw => ?_, h4.moved hW.alike, h5.moved hW.alike, h6.moved hW.alike⟩
  · have q := h1 w hw
    simp only [zNf, List.mem_cons, List.not_mem_nil, or_false] at hw
    rcases hw with rfl | rfl | rfl | rfl | rfl | rfl | rfl | rfl | rfl | rfl | rfl | rfl <;> exact va_Nw.warmF hW q
  · have q := h2 w hw
    simp only [zNm, List.mem_cons, List.not_mem_nil, or_false] at hw
    rcases hw with rfl | rfl | rfl | rfl | rfl | rfl | rfl | rfl | rfl | rfl | rfl <;> exact va_Nw.warmM hW q
  · have q := h3 w hw
    simp only [zNc, List.mem_cons, List.not_mem_nil, or_false] at hw
    rcases hw with rfl | rfl | rfl | rfl | rfl | rfl | rfl | rfl | rfl | rfl <;> exact va_Nw.warmC hW q
/-- a nest mate's link by its place -/
theorem zN_f {s : State} (h : zN s) (i : Nat) {w : Cond} (hi : zNf[i]? = some w) {args : Array Value} (ho : w.onTables = true) : w.before args s = true := va_Nw.use ho (h.1 w (List.mem_of_getElem? hi))
theorem zN_m {s : State} (h : zN s) (i : Nat) {w : Cond} (hi : zNm[i]? = some w) : va_Nw w s := h.2.1 w (List.mem_of_getElem? hi)
theorem zN_c {s : State} (h : zN s) (i : Nat) {w : Cond} (hi : zNc[i]? = some w) : va_Nw w s := h.2.2.1 w (List.mem_of_getElem? hi)
/-- a contract's start -/
def zPc (D : va_G) (kk : Nat → ClassId) (ws : va_W) (sz : Nat) (U : State) : Prop := U.heap.size = sz ∧ va_P D vwCl ws U.heap ∧ va_K D vwCl (zT kk) U ∧ zN U ∧ va_D (fun _ => True) ws
/-- a contract's world behind it -/
def zB {S : Type} (D : va_G) (A : Nat → Prop) (w1 : S → va_W) (u : S) (t : State) : Prop := va_P D vwCl (w1 u) t.heap ∧ va_D A (w1 u)
theorem zPc_blind {D : va_G} {kk : Nat → ClassId} {ws : va_W} {sz : Nat} {av : List Value} : FrameBlind (va_Pc av (zPc D kk ws sz)) := by
  intro a U g mk q
  obtain ⟨q0, q1, qP, qK, qN, qD⟩ := q
  exact ⟨q0, q1, qP, va_K.moved (u := U) (U := U.calling g mk a) (Vm.Alike.refl U.vm) qK, zN_same (u := U) rfl qN, qD⟩
theorem zp_S {s : State} {H : Heap} {D : va_G} {kk : Nat → ClassId} {wc : va_W} {A : Nat → Prop} {av : List Value} (hK : va_K D vwCl (zT kk) s) (hN : zN s) (hP : va_P D vwCl wc H) (hD : va_D A wc) : PreS s H (va_Pc av (zPc D kk wc H.size)) av :=
  ⟨zPc_blind, fun U hU hW => ⟨rfl, by rw [hU], by rw [hU]; exact hP, va_K.moved hW.alike hK, zN_warm hW hN, hD.weaken (fun _ _ _ _ => trivial)⟩⟩
theorem zp_V {s : State} {H : Heap} {D : va_G} {kk : Nat → ClassId} {wc : va_W} {A : Nat → Prop} {As : List Value} {b : Nat} {C : String} (hK : va_K D vwCl (zT kk) s) (hN : zN s) (hr : ∃ cell : Cell, H[b]? = some cell ∧ cell.vm.isStatics = false ∧ s.vm.findClass C = some cell.cls) (hP : va_P D vwCl wc H) (hD : va_D A wc) : PreV s H C b (va_Pc (.ref b :: As) (zPc D kk wc H.size)) As :=
  ⟨zPc_blind, hr, fun U hU hW => ⟨rfl, by rw [hU], by rw [hU]; exact hP, va_K.moved hW.alike hK, zN_warm hW hN, hD.weaken (fun _ _ _ _ => trivial)⟩⟩
/-- what a walk has at hand: the machine and the tables -/
abbrev zX (p : Program) (s : State) (m : MethodId) (args : Array Value) (meth : Method) (c : Code) (cc : ByteArray) (nL : Nat) (ret : Option FieldType) (own nm : String) (D : va_G) (kk : Nat → ClassId) (A : Nat → Prop) : Prop :=
  p.tables.exec = Jvm.exec ∧ c.code = cc ∧ meth.sig.returnType = ret ∧ c.maxLocals = nL ∧ s.vm.findClass own = some m.cls ∧ (∀ w ∈ lw_all, w.before args s = true) ∧ meth.locks = false ∧ meth.name = nm ∧ va_K D vwCl (zT kk) s ∧ zN s ∧ (∀ q : Nat, s.heap.size ≤ q → A q)
theorem zMet {l : Launch} {y : MethodName} {rm : Room} {cc : ByteArray} {maxL : Nat} {ret : Option FieldType} {mc ms : Nat} {D : va_G} {kk : Nat → ClassId} {W0 : va_W} {sz : Nat} {av : List Value} {Qc : (Nat → Prop) → Array Value → State → Outcome → State → Prop}
    (hy : plainName y.cls = true) (hlen : (lg_sl av).length ≤ maxL)
    (body : ∀ p e s m below meth c A, zX p s m av.toArray meth c cc maxL ret y.cls y.name D kk A → va_P D vwCl W0 s.heap → va_D A W0 → va_S A s.heap s.heap [] → ∀ ls : Array Slot, lv_has ls maxL (lv_args 0 av) →
      W p l e rm s m av.toArray below meth c s.heap [] 0 0 (MQ below (Qc A) av.toArray s mc ms A) (F0 m 0 ls [])) :
    Met l y (ws_ y cc maxL ret) rm (va_Pc av (zPc D kk W0 sz)) (Qc (va_A W0 sz)) mc ms (va_A W0 sz) := by
  refine Met.ofW (cc := cc) (maxL := maxL) (ret := ret) hy rfl ?_
  intro p e s m args below meth c s₁ B hml hv
  obtain ⟨rfl, hsz, hP, hK, hN, hD0⟩ := hv
  have hts := atoms_spec (ws := ws_ y cc maxL ret) B.pre
  have hts : ∀ w ∈ lw_all, w.before _ s = true := fun w h => hts w (List.mem_cons_of_mem _ h)
  have hown : s.vm.findClass y.cls = some m.cls := findClass_of_methodNamed B.named
  subst hsz
  rw [lg_entry_eq]
  exact body p e s m below meth c (va_A W0 s.heap.size) ⟨B.exec, B.bytes, B.returns, hml, hown, hts, B.notSynchronized, (name_of_methodNamed B.named B.method).1, hK, hN, fun q h => Or.inr h⟩ hP (hD0.self (sz := s.heap.size)) va_S.rf _ (lv_entry av hlen)
section ZR
variable {p : Program} {l : Launch} {e : Env} {R : Room} {s : State} {m : MethodId} {args : Array Value} {below : List Frame} {meth : Method} {c : Code} {H : Heap} {locs : List Loc} {cells slots : Nat} {Q : State → Prop}
variable {cc : ByteArray} {pc : Nat} {ls : Array Slot} {rest st0 : List Value} {a : Array Value} {D : va_G} {A : Nat → Prop} {ws wc wr : va_W} {S : Type} {w1 : S → va_W} {mc ms : Nat}
/-- ends -/
theorem zr_i {post : Int32 → S → Prop} {v : Int32} {ty : FieldType} (hx : p.tables.exec = Jvm.exec) (hb : c.code = cc) (hr : meth.sig.returnType = some ty) (hlk : meth.locks = false) (hn : narrow ty (.int v) = .int v) (hP : va_P D vwCl ws H) (hD : va_D A ws) (hS : va_S A s.heap H locs) (u : S) (is : List Nat) (hs : is.map (fun i => ws[i]?) = (w1 u).map some) (hnd : va_nd is = true) (hd : decode cc pc = .ok (.ireturn, 1)) (h : post v u) :
    W p l e R s m args below meth c H locs cells slots (MQ below (va_Qi post (zB D A w1) A) args s cells slots A) (F0 m pc ls [.int v]) := by
  have hs2 : is.filterMap (fun i => ws[i]?) = w1 u := by
    have h1 : is.filterMap (fun i => ws[i]?) = (is.map (fun i => ws[i]?)).filterMap id := by rw [List.filterMap_map]; rfl
    rw [h1, hs, List.filterMap_map]
    simp
  exact W.zret (v := v) hx hb hr hn (fun t ht hW => ⟨⟨v, u, rfl, h, by rw [ht]; exact hP.sub is hs2, hD.sub is hnd hs⟩, hS.F ht⟩) hS.2.2 hd
theorem zr_l {post : Int64 → S → Prop} {v : Int64} (hx : p.tables.exec = Jvm.exec) (hb : c.code = cc) (hr : meth.sig.returnType = some .long) (hlk : meth.locks = false) (hP : va_P D vwCl ws H) (hD : va_D A ws) (hS : va_S A s.heap H locs) (u : S) (is : List Nat) (hs : is.map (fun i => ws[i]?) = (w1 u).map some) (hnd : va_nd is = true) (hd : decode cc pc = .ok (.lreturn, 1)) (h : post v u) :
    W p l e R s m args below meth c H locs cells slots (MQ below (va_Ql post (zB D A w1) A) args s cells slots A) (F0 m pc ls [.long v]) := by
  have hs2 : is.filterMap (fun i => ws[i]?) = w1 u := by
    have h1 : is.filterMap (fun i => ws[i]?) = (is.map (fun i => ws[i]?)).filterMap id := by rw [List.filterMap_map]; rfl
    rw [h1, hs, List.filterMap_map]
    simp
  exact W.lret (v := v) hx hb hr (fun t ht hW => ⟨⟨v, u, rfl, h, by rw [ht]; exact hP.sub is hs2, hD.sub is hnd hs⟩, hS.F ht⟩) hS.2.2 hd
theorem zr_v {post : S → Prop} (hx : p.tables.exec = Jvm.exec) (hb : c.code = cc) (hr : meth.sig.returnType = none) (hlk : meth.locks = false) (hP : va_P D vwCl ws H) (hD : va_D A ws) (hS : va_S A s.heap H locs) (u : S) (is : List Nat) (hs : is.map (fun i => ws[i]?) = (w1 u).map some) (hnd : va_nd is = true) (hd : decode cc pc = .ok (.return_, 1)) (h : post u) :
    W p l e R s m args below meth c H locs cells slots (MQ below (va_Qv post (zB D A w1) A) args s cells slots A) (F0 m pc ls []) := by
  have hs2 : is.filterMap (fun i => ws[i]?) = w1 u := by
    have h1 : is.filterMap (fun i => ws[i]?) = (is.map (fun i => ws[i]?)).filterMap id := by rw [List.filterMap_map]; rfl
    rw [h1, hs, List.filterMap_map]
    simp
  exact W.vret hx hb hr (fun t ht hW => ⟨⟨u, rfl, h, by rw [ht]; exact hP.sub is hs2, hD.sub is hnd hs⟩, hS.F ht⟩) hS.2.2 hd
/-- calls: the callee's cells are cut out, and put back beside the rest -/
theorem zc_i {post : Int32 → S → Prop} (isC isR : List Nat) (hC : isC.map (fun i => ws[i]?) = wc.map some) (hR : isR.map (fun i => ws[i]?) = wr.map some) (hn : va_nd isR = true) (hnc : va_nd isC = true) (hdis : ∀ i ∈ isR, i ∉ isC) (hA : ∀ q : Nat, s.heap.size ≤ q → A q) (hP : va_P D vwCl ws H) (hD : va_D A ws) (hS : va_S A s.heap H locs)
    (hr : va_P D vwCl wc H → va_D A wc → va_Run p l e R s m args below meth c H locs cells slots mc ms (F0 m pc ls st0) rest (va_Qi post (zB D (va_A wc H.size) w1) (va_A wc H.size) a) (va_A wc H.size))
    (kk : ∀ (r : Int32) (u : S) (H1 : Heap) (locs1 : List Loc), post r u → va_P D vwCl (wr ++ w1 u) H1 → va_D A (wr ++ w1 u) → va_S A s.heap H1 locs1 → W p l e R s m args below meth c H1 locs1 (cells + mc) (slots + ms) Q (F0 m (pc + 3) ls (.int r :: rest))) :
    W p l e R s m args below meth c H locs cells slots Q (F0 m pc ls st0) := by
  have hs2 : isC.filterMap (fun i => ws[i]?) = wc := by
    have h1 : isC.filterMap (fun i => ws[i]?) = (isC.map (fun i => ws[i]?)).filterMap id := by rw [List.filterMap_map]; rfl
    rw [h1, hC, List.filterMap_map]
    simp
  have hFc := va_free (wc := wc) hD hS hA isC hC
  refine va_calli (hr (hP.sub isC hs2) (hD.sub isC hnc hC)) hS (fun q _ h => hFc q h) hFc (fun r u t H1 locs1 ht hvm hw hB hz hk hS1 => ?_)
  obtain ⟨hP1, hD1⟩ := hB
  rw [ht] at hP1
  obtain ⟨hP2, hD2⟩ := va_join hP hD isC isR hC hR hn hdis hk hFc hP1 hD1
  exact kk r u H1 locs1 hw hP2 hD2 hS1
theorem zc_l {post : Int64 → S → Prop} (isC isR : List Nat) (hC : isC.map (fun i => ws[i]?) = wc.map some) (hR : isR.map (fun i => ws[i]?) = wr.map some) (hn : va_nd isR = true) (hnc : va_nd isC = true) (hdis : ∀ i ∈ isR, i ∉ isC) (hA : ∀ q : Nat, s.heap.size ≤ q → A q) (hP : va_P D vwCl ws H) (hD : va_D A ws) (hS : va_S A s.heap H locs)
    (hr : va_P D vwCl wc H → va_D A wc → va_Run p l e R s m args below meth c H locs cells slots mc ms (F0 m pc ls st0) rest (va_Ql post (zB D (va_A wc H.size) w1) (va_A wc H.size) a) (va_A wc H.size))
    (kk : ∀ (r : Int64) (u : S) (H1 : Heap) (locs1 : List Loc), post r u → va_P D vwCl (wr ++ w1 u) H1 → va_D A (wr ++ w1 u) → va_S A s.heap H1 locs1 → W p l e R s m args below meth c H1 locs1 (cells + mc) (slots + ms) Q (F0 m (pc + 3) ls (.long r :: rest))) :
    W p l e R s m args below meth c H locs cells slots Q (F0 m pc ls st0) := by
  have hs2 : isC.filterMap (fun i => ws[i]?) = wc := by
    have h1 : isC.filterMap (fun i => ws[i]?) = (isC.map (fun i => ws[i]?)).filterMap id := by rw [List.filterMap_map]; rfl
    rw [h1, hC, List.filterMap_map]
    simp
  have hFc := va_free (wc := wc) hD hS hA isC hC
  refine va_calll (hr (hP.sub isC hs2) (hD.sub isC hnc hC)) hS (fun q _ h => hFc q h) hFc (fun r u t H1 locs1 ht hvm hw hB hz hk hS1 => ?_)
  obtain ⟨hP1, hD1⟩ := hB
  rw [ht] at hP1
  obtain ⟨hP2, hD2⟩ := va_join hP hD isC isR hC hR hn hdis hk hFc hP1 hD1
  exact kk r u H1 locs1 hw hP2 hD2 hS1
theorem zc_v {post : S → Prop} (isC isR : List Nat) (hC : isC.map (fun i => ws[i]?) = wc.map some) (hR : isR.map (fun i => ws[i]?) = wr.map some) (hn : va_nd isR = true) (hnc : va_nd isC = true) (hdis : ∀ i ∈ isR, i ∉ isC) (hA : ∀ q : Nat, s.heap.size ≤ q → A q) (hP : va_P D vwCl ws H) (hD : va_D A ws) (hS : va_S A s.heap H locs)
    (hr : va_P D vwCl wc H → va_D A wc → va_Run p l e R s m args below meth c H locs cells slots mc ms (F0 m pc ls st0) rest (va_Qv post (zB D (va_A wc H.size) w1) (va_A wc H.size) a) (va_A wc H.size))
    (kk : ∀ (u : S) (H1 : Heap) (locs1 : List Loc), post u → va_P D vwCl (wr ++ w1 u) H1 → va_D A (wr ++ w1 u) → va_S A s.heap H1 locs1 → W p l e R s m args below meth c H1 locs1 (cells + mc) (slots + ms) Q (F0 m (pc + 3) ls rest)) :
    W p l e R s m args below meth c H locs cells slots Q (F0 m pc ls st0) := by
  have hs2 : isC.filterMap (fun i => ws[i]?) = wc := by
    have h1 : isC.filterMap (fun i => ws[i]?) = (isC.map (fun i => ws[i]?)).filterMap id := by rw [List.filterMap_map]; rfl
    rw [h1, hC, List.filterMap_map]
    simp
  have hFc := va_free (wc := wc) hD hS hA isC hC
  refine va_callv (hr (hP.sub isC hs2) (hD.sub isC hnc hC)) hS (fun q _ h => hFc q h) hFc (fun u t H1 locs1 ht hvm hw hB hz hk hS1 => ?_)
  obtain ⟨hP1, hD1⟩ := hB
  rw [ht] at hP1
  obtain ⟨hP2, hD2⟩ := va_join hP hD isC isR hC hR hn hdis hk hFc hP1 hD1
  exact kk u H1 locs1 hw hP2 hD2 hS1
/-- a new array, of a class that the list has -/
theorem z_newa (hexec : p.tables.exec = Jvm.exec) (hb : c.code = cc) {atype : ArrayType} (harr : (Cond.arrayClass (newarray.typeOf atype)).before args s = true) {ty : FieldType} (hty : newarray.typeOf atype = ty) {kk : Nat → ClassId} (hK : va_K D vwCl (zT kk) s) (t0 : Nat) {kA : ClassId} (ht0 : (zT kk)[t0]? = some (kA, ty)) (hpr : va_RA s kA ty = (s.vm.findClass ("[" ++ ty.toString) = some kA)) (hP : va_P D vwCl ws H) (hD : va_D A ws) (hS : va_S A s.heap H locs) (hA : ∀ q, s.heap.size ≤ q → A q)
    {n : Int32} {N' : Nat} {a0 : vp_A} (ha : ∀ cA : ClassId, vp_cell cA a0 = arrV cA N' (fun _ => defaultValue ty)) (hn : ¬ n < 0) (hN : n.toNatClampNeg = N') (hbytes : N' * componentBytes ty ≤ 536870912) (hcells : cells + 1 ≤ R.cells) (hslots : slots + N' ≤ R.slots) (hdg : decode cc pc = .ok (.newarray atype, 2))
    (kk : ∀ (q : Nat) (H1 : Heap), va_P D vwCl (ws ++ [(q, .inl (kA, a0))]) H1 → va_D A (ws ++ [(q, .inl (kA, a0))]) → va_S A s.heap H1 locs →
      W p l e R s m args below meth c H1 locs (cells + 1) (slots + N') Q (F0 m (pc + 2) ls (.ref q :: rest))) : W p l e R s m args below meth c H locs cells slots Q (F0 m pc ls (.int n :: rest)) := by
  refine va_newa hexec hb harr hty hK hP hD hS hA ha hn hN hbytes hcells hslots hdg (fun q cA H1 hK1 hP1 hD1 hS1 => ?_)
  have h1 : va_RA s kA ty := (hK.2 t0 _ ht0).2
  have h2 : va_RA s cA ty := (hK1.2 7 (cA, ty) rfl).2
  have h3 : va_RA s cA ty = (s.vm.findClass ("[" ++ ty.toString) = some cA) := by
    rw [← hty] at hpr ⊢
    cases atype <;> rfl
  rw [hpr] at h1
  rw [h3] at h2
  have h4 : kA = cA := Option.some.inj (h1.symm.trans h2)
  subst h4
  exact kk q H1 hP1 hD1 hS1
/-- a new array of references -/
theorem z_newq (hexec : p.tables.exec = Jvm.exec) (hb : c.code = cc) {own C : String} {index : Nat} (hown : s.vm.findClass own = some m.cls) (hclink : (Cond.classLink own index C).before args s = true) (hover : va_AO C s) {kk : Nat → ClassId} (hK : va_K D vwCl (zT kk) s) (t0 : Nat) {kA : ClassId} (ht0 : (zT kk)[t0]? = some (kA, .object C)) (hP : va_P D vwCl ws H) (hD : va_D A ws) (hS : va_S A s.heap H locs) (hA : ∀ q, s.heap.size ≤ q → A q)
    {n : Int32} {N' : Nat} (hn : ¬ n < 0) (hN : n.toNatClampNeg = N') (hbytes : N' * 4 ≤ 536870912) (hcells : cells + 1 ≤ R.cells) (hslots : slots + N' ≤ R.slots) (hdg : decode cc pc = .ok (.anewarray index, 3))
    (kk : ∀ (q : Nat) (H1 : Heap), va_P D vwCl (ws ++ [(q, .inl (kA, N', .inr (.inr (.inr (.inr (fun _ => none))))))]) H1 → va_D A (ws ++ [(q, .inl (kA, N', .inr (.inr (.inr (.inr (fun _ => none))))))]) → va_S A s.heap H1 locs →
      W p l e R s m args below meth c H1 locs (cells + 1) (slots + N') Q (F0 m (pc + 3) ls (.ref q :: rest))) : W p l e R s m args below meth c H locs cells slots Q (F0 m pc ls (.int n :: rest)) := by
  refine va_newq hexec hb hown hclink hover hK hP hD hS hA hn hN hbytes hcells hslots hdg (fun q cA H1 hK1 hP1 hD1 hS1 => ?_)
  have h1 : va_RA s kA (.object C) := (hK.2 t0 _ ht0).2
  have h2 : va_RA s cA (.object C) := (hK1.2 7 (cA, .object C) rfl).2
  obtain ⟨_, _, _, _, _, g1⟩ := h1
  obtain ⟨_, _, _, _, _, g2⟩ := h2
  have h4 : kA = cA := Option.some.inj (g1.symm.trans g2)
  subst h4
  exact kk q H1 hP1 hD1 hS1
/-- the branch by a switch: one case -/
theorem z_case {x : Int32} {k : Int} {kI : Int32} (h : x = kI) (hk : kI.toInt = k) : x.toInt = k := by rw [h, hk]
end ZR
/-! cells -/
abbrev zA (ca : ClassId) (a n : Nat) (h : Nat → Int32) : Nat × va_E := (a, .inl (ca, n, .inl h))
abbrev zQ (ca : ClassId) (a n : Nat) (h : Nat → Option Nat) : Nat × va_E := (a, .inl (ca, n, .inr (.inr (.inr (.inr h)))))
abbrev zJ (a ci : Nat) : Nat × va_E := (a, .inr (ci, []))
/-- LoseLeague: ad 0 itself, 1 kinds, 2..5 its towns' kinds, 6 7 8 now, 9 10 11 tried, 12 images, 13..15, 16..18 theirs, 19 seen, 20 tape, 21 row, 22 bestRow, 23 losersBy, 24 byStrength, 25 sheets, 26..29 the sheets -/
abbrev zO (ad : Nat → Nat) (f : Nat → Int32) (g : Nat → Int64) : Nat × va_E := (ad 0, .inr (0, [.ref (ad 1), .ref (ad 6), .ref (ad 9), .ref (ad 12), .int (f 4), .ref (ad 19), .int (f 6), .int (f 7), .int (f 8), .int (f 9), .int (f 10), .ref (ad 20), .int (f 12), .int (f 13), .int (f 14), .int (f 15), .ref (ad 21), .ref (ad 22), .long (g 18), .long (g 19), .long (g 20), .ref (ad 23), .ref (ad 24), .ref (ad 25), .int (f 24)]))
abbrev zL (a t x : Nat) (f : Nat → Int32) : Nat × va_E := (a, .inr (5, [.int (f 0), .ref t, .int (f 2), .ref x, .int (f 4), .int (f 5)]))
def zKf (ad : Nat → Nat) : Nat → Option Nat := (va_up (va_up (va_up (va_up (fun _ => none) (0 : Int32).toNatClampNeg (some (ad 2))) (1 : Int32).toNatClampNeg (some (ad 3))) (2 : Int32).toNatClampNeg (some (ad 4))) (3 : Int32).toNatClampNeg (some (ad 5)))
def zIf (ad : Nat → Nat) : Nat → Option Nat := (va_up (va_up (fun _ => none) (0 : Int32).toNatClampNeg (some (ad 13))) (1 : Int32).toNatClampNeg (some (ad 16)))
def zSf (ad : Nat → Nat) : Nat → Option Nat := (va_up (va_up (va_up (va_up (fun _ => none) (0 : Int32).toNatClampNeg (some (ad 26))) (1 : Int32).toNatClampNeg (some (ad 27))) (2 : Int32).toNatClampNeg (some (ad 28))) (3 : Int32).toNatClampNeg (some (ad 29)))
/-- LoseLeagueModel: am 0 itself, 1 state, 2 readPage, 3 tape, 4 ends, 5 letters, 6 bestRow, 7 seen, 8 loserBy, 9 isKept, 10 lanes, 11 lengths, 12 cells -/
abbrev zM (am : Nat → Nat) (f : Nat → Int32) : Nat × va_E := (am 0, .inr (7, [.ref (am 1), .int (f 1), .ref (am 2), .int (f 3), .int (f 4), .ref (am 3), .int (f 6), .int (f 7), .int (f 8), .int (f 9), .int (f 10), .int (f 11), .int (f 12), .int (f 13), .ref (am 4), .ref (am 5), .int (f 16), .int (f 17), .int (f 18), .int (f 19), .ref (am 6), .ref (am 7), .int (f 22), .ref (am 8), .ref (am 9), .ref (am 10), .ref (am 11), .ref (am 12), .int (f 28)]))
/-! words for overriding, inherited and super calls -/
theorem lw_U {own : String} {idx : Nat} {C owner : String} {x y : MethodName} {b : ByteArray} {L : Nat} {r : Option FieldType} (h1 : Cond.methodLink own idx x ∈ lw_all) (h2 : Cond.sameMethod x.cls owner x.name x.desc ∈ lw_all) (h3 : Cond.selects C x y ∈ lw_all) (h4 : Cond.instanceMethod y ∈ lw_all) (h5 : Cond.initialized y.cls ∈ lw_all) (h6 : Cond.code y b L r ∈ lw_all) : GoodIn lw_all (va_wsU own idx C owner x y (ws_ y b L r)) := by
  refine lw_app ?_ (lw_meth h6)
  intro w hw
  simp only [List.mem_cons, List.not_mem_nil, or_false] at hw
  rcases hw with e | e | e | e | e
  · rw [e]; exact h1
  · rw [e]; exact h2
  · rw [e]; exact h3
  · rw [e]; exact h4
  · rw [e]; exact h5
theorem lw_O {own : String} {idx : Nat} {C owner : String} {x y : MethodName} {b : ByteArray} {L : Nat} {r : Option FieldType} (h1 : Cond.methodLink own idx x ∈ lw_all) (h2 : Cond.sameMethod x.cls owner x.name x.desc ∈ lw_all) (h0 : Cond.instanceMethod ⟨owner, x.name, x.desc⟩ ∈ lw_all) (h3 : Cond.selects C x y ∈ lw_all) (h4 : Cond.instanceMethod y ∈ lw_all) (h5 : Cond.initialized y.cls ∈ lw_all) (h6 : Cond.code y b L r ∈ lw_all) : GoodIn lw_all (va_wsO own idx C owner x y (ws_ y b L r)) := by
  refine lw_app ?_ (lw_meth h6)
  intro w hw
  simp only [List.mem_cons, List.not_mem_nil, or_false] at hw
  rcases hw with e | e | e | e | e | e
  · rw [e]; exact h1
  · rw [e]; exact h2
  · rw [e]; exact h0
  · rw [e]; exact h3
  · rw [e]; exact h4
  · rw [e]; exact h5
theorem lw_SU {own : String} {idx : Nat} {y : MethodName} {b : ByteArray} {L : Nat} {r : Option FieldType} (h1 : Cond.methodLink own idx y ∈ lw_all) (h2 : Cond.sameMethod y.cls y.cls y.name y.desc ∈ lw_all) (h3 : Cond.superclass own y.cls ∈ lw_all) (h4 : Cond.instanceMethod y ∈ lw_all) (h5 : Cond.initialized y.cls ∈ lw_all) (h6 : Cond.code y b L r ∈ lw_all) : GoodIn lw_all (va_wsSU own idx y (ws_ y b L r)) := by
  refine lw_app ?_ (lw_meth h6)
  intro w hw
  simp only [List.mem_cons, List.not_mem_nil, or_false] at hw
  rcases hw with e | e | e | e | e
  · rw [e]; exact h1
  · rw [e]; exact h2
  · rw [e]; exact h3
  · rw [e]; exact h4
  · rw [e]; exact h5
/-- super.m(), where the superclass has it from its own superclass -/
theorem z_runSX {p : Program} {l : Launch} {e : Env} {R : Room} {s : State} {m : MethodId} {args : Array Value} {below : List Frame} {meth : Method} {c : Code} {H : Heap} {locs : List Loc} {cells slots : Nat}
    {x y : MethodName} {owner : String} {bytes cc : ByteArray} {maxL nL mc ms index : Nat} {ret : Option FieldType} {rm : Room} {Pc : Array Value → State → Prop} {Qc : Array Value → State → Outcome → State → Prop} {free : Addr → Prop} {own C : String} {cC : ClassId} {b : Addr} {As rest : List Value} {g : JFrame}
    (n : Nat) (hat : ClassAt s C cC) (S : CallFix p m c cc nL s args lw_all own) (hM : Met l y (ws_ y bytes maxL ret) rm Pc Qc mc ms free) (hrc : rm.cells = mc) (hrs : rm.slots = ms) (hR : rm.frames + 1 ≤ R.frames ∧ 8 + (maxL + 11) + rm.locals ≤ R.locals)
    (w1 : Cond.methodLink own index x ∈ lw_all) (w2 : Cond.sameMethod x.cls owner x.name x.desc ∈ lw_all) (w3 : Cond.superclass own x.cls ∈ lw_all) (w4 : Cond.superclass x.cls owner ∈ lw_all) (w5 : Cond.instanceMethod y ∈ lw_all) (w6 : Cond.initialized y.cls ∈ lw_all) (w7 : Cond.code y bytes maxL ret ∈ lw_all) (hy : y = ⟨owner, x.name, x.desc⟩) (hd : y.name ≠ "<init>" ∧ (parseMethodDescriptor y.desc).map (fun d => d.parameters.length) = some n)
    (hp : PreV s H C b Pc As) (hg : g.method = m) (hn : As.length = n) (hsize : g.locals.size = nL) (hstack : g.stack = As.reverse ++ .ref b :: rest) (hW : 2 * g.monitorRoom + (rest.map fun v => v.category).sum ≤ 8) (hdg : decode cc g.pc = .ok (.invokespecial index, 3)) (hf : cells + mc ≤ R.cells ∧ slots + ms ≤ R.slots) :
    va_Run p l e R s m args below meth c H locs cells slots mc ms g rest (Qc (Value.ref b :: As).toArray) (free) := by
  obtain ⟨hx, hb, hml, ho, hts⟩ := S
  have hini := hts _ w6
  have hK : Back l R p e below s args y 3 8 (PreOf R mc ms Pc) (PostOf Qc mc ms free) := back_of (bytes := bytes) (maxL := maxL) (ret := ret) hM hp.1 hrc hrs hR.1 hR.2 (pay_in hts (lw_meth w7)) List.mem_cons_self (fun a' U hW => word_at hW (Or.inl (by first | rfl | simp [Cond.onTables, Cond.keeps, Cond.steady])) hini)
  obtain ⟨-, ⟨cellB, hcB, hoB, hclB⟩, hPc⟩ := hp
  obtain ⟨hfc, kB, hkB, -⟩ := hat
  cases hfc.symm.trans hclB
  obtain ⟨mk, methM, hnamed, hmethM, hstM, habM⟩ := Cond.instanceMethod_spec (hts _ w5)
  obtain ⟨methM', cM, hmethM', -, -, -, -, -, -, hsigM⟩ := Cond.code_spec hnamed (hts _ w7)
  cases hmethM.symm.trans hmethM'
  obtain ⟨ps, dk, kp, hps, hdk, hkp, hsuper, -, -, hnid⟩ := Cond.superclass_spec ho (hts _ w3)
  obtain ⟨ps2, dk2, kp2, hps2, hdk2, hkp2, hsuper2, -, -, -⟩ := Cond.superclass_spec hps (hts _ w4)
  have hno : x.name ≠ "<init>" := by have := hd.1; rw [hy] at this; exact this
  have hlen := hd.2
  have hnm2 : s.methodNamed? ⟨owner, x.name, x.desc⟩ = some mk := by rw [← hy]; exact hnamed
  have hpm : ps2 = mk.cls := Option.some.inj (hps2.symm.trans (findClass_of_methodNamed hnm2))
  have hsub : s.vm.isSubclass ps mk.cls = true := by
    rw [← hpm]
    unfold Vm.isSubclass
    have hlt : ps < s.vm.classes.size := (Array.getElem?_eq_some_iff.mp hdk2).1
    obtain ⟨k, hk⟩ : ∃ k, s.vm.classes.size = k + 1 := Nat.exists_eq_succ_of_ne_zero (Nat.ne_of_gt (Nat.lt_of_le_of_lt (Nat.zero_le _) hlt))
    rw [hk]
    simp [Vm.isSubclassAux, hdk2, hsuper2]
  intro T hT X
  have hlen2 : ∀ sig, parseMethodDescriptor y.desc = some sig → As.length = sig.parameters.length := fun sig h => by
    rw [h] at hlen
    exact hn.trans (Option.some.inj hlen).symm
  obtain ⟨vm₁, X₁, hstep₁⟩ := X.invokespecialUp hx ho (hts _ w1) (hts _ w2) hnm2 hmethM hstM habM hno hdk hnid hps hsuper hsub (a := b) (cell := cellB) (by rw [hT]; exact hcB)
    (fun z h => by rw [h] at hoB; cases hoB) hkB (g := g) hg (argsL := As) (rest := rest) (hlen2 _ hsigM) hstack (by rw [hb]; exact hdg)
  obtain ⟨v, ⟨U', l2, c2, s2⟩, X', ⟨g', mk', t, L, e1, e2, hq, h1, hL, h2, h3⟩, hsteps⟩ := hK m meth c ⟨T.setVm vm₁, locs, cells, slots⟩ { g with stack := rest } (.invokespecial index) mk (Value.ref b :: As).toArray X₁ hg (hsize.trans hml.symm) (by rw [hb]; exact hdg) hW (X₁.named hnamed) ⟨hf.1, hf.2, hPc (T.setVm vm₁) hT X₁.warmed⟩
  dsimp only [Pt.U, Pt.locs, Pt.cells, Pt.slots] at X' e1 e2 h1 h2 h3
  subst h1; subst h2; subst h3
  exact ⟨v, (T.setVm vm₁).calling g' mk' (Value.ref b :: As).toArray, t, U', L, hT, X', hL, e1, e2, hq, fun target h => hstep₁ _ (by rw [doInvoke_state]; exact hsteps.trans h)⟩
theorem z_in2 {x : Int32} (h : vp_in x 2) : x = 0 ∨ x = 1 := by
  obtain ⟨j, hj, rfl⟩ := vp_in_of h (by decide)
  have : j = 0 ∨ j = 1 := by omega
  rcases this with rfl | rfl
  · exact Or.inl rfl
  · exact Or.inr rfl
theorem z_in4 {x : Int32} (h : vp_in x 4) : x = 0 ∨ x = 1 ∨ x = 2 ∨ x = 3 := by
  obtain ⟨j, hj, rfl⟩ := vp_in_of h (by decide)
  have : j = 0 ∨ j = 1 ∨ j = 2 ∨ j = 3 := by omega
  rcases this with rfl | rfl | rfl | rfl
  · exact Or.inl rfl
  · exact Or.inr (Or.inl rfl)
  · exact Or.inr (Or.inr (Or.inl rfl))
  · exact Or.inr (Or.inr (Or.inr rfl))
section ZLW
variable {p : Program} {l : Launch} {e : Env} {R : Room} {s : State} {m : MethodId} {args : Array Value} {below : List Frame} {meth : Method} {c : Code} {H : Heap} {locs : List Loc} {cells slots : Nat} {Q : State → Prop}
variable {cc : ByteArray} {pc : Nat} {ls : Array Slot} {rest : List Value}
/-- 'ldc_w' of an int -/
theorem lv_ldc_w (hexec : p.tables.exec = Jvm.exec) (hb : c.code = cc) {own : String} {index : Nat} {v : Int32} (hown : s.vm.findClass own = some m.cls) (hconst : (Jvm.Cond.constant own index v).before args s = true) (hdg : decode cc pc = .ok (.ldc_w index, 3)) (k : W p l e R s m args below meth c H locs cells slots Q (F0 m (pc + 3) ls (.int v :: rest))) : W p l e R s m args below meth c H locs cells slots Q (F0 m pc ls rest) := by
  intro T hT X
  obtain ⟨t, a, b⟩ := k T hT X
  refine ⟨t, ?_, b⟩
  obtain ⟨k0, cf, bytes, hk, hcf, hcp, hbb⟩ := Cond.constant_spec hown hconst
  obtain ⟨k', hk', he⟩ := X.warmed.alike.2.2 _ _ hk
  jvm_step X.here [hexec, hb, hdg, ldc_w.wp_int (s := T) (f := F0 m pc ls rest) X.here.top hk' (by rw [he]; exact hcf) hcp, hbb]
  exact a
end ZLW
