/-! SHEETS 1: starts of contracts that may see exceptions; the pool of the sheets' arrays -/
set_option maxRecDepth 100000
def zPX (D : va_G) (kk : Nat → ClassId) (ws : va_W) (sz : Nat) (U : State) : Prop := zPc D kk ws sz U ∧ zY U
theorem zPX_blind {D : va_G} {kk : Nat → ClassId} {ws : va_W} {sz : Nat} {av : List Value} : FrameBlind (va_Pc av (zPX D kk ws sz)) := by
  intro a U g mk q
  obtain ⟨q0, q1, qY⟩ := q
  exact ⟨q0, (zPc_blind (av := av) a U g mk ⟨q0, q1⟩).2, zY_same (u := U) rfl rfl qY⟩
/-- what isn't touched: the statics -/
theorem z_kept {s : State} {A : Nat → Prop} {H : Heap} {locs : List Loc} (hS : va_S A s.heap H locs) (hn : ∀ q : Nat, A q → ∀ cell : Cell, s.heap[q]? = some cell → cell.vm.isStatics = false) : ∀ (a : Nat) (cell : Cell), s.heap[a]? = some cell → cell.vm.isStatics = true → H[a]? = some cell := by
  intro a cell h1 h2
  rw [hS.2.1 a (Array.getElem?_eq_some_iff.mp h1).1 (fun q => by rw [hn a q cell h1] at h2; cases h2)]
  exact h1
theorem zpx_V {s : State} {H : Heap} {D : va_G} {kk : Nat → ClassId} {wc : va_W} {A B : Nat → Prop} {locs : List Loc} {As : List Value} {b : Nat} {C : String} (hK : va_K D vwCl (zT kk) s) (hN : zN s) (hY : zY s) (hS : va_S B s.heap H locs) (hn : ∀ q : Nat, B q → ∀ cell : Cell, s.heap[q]? = some cell → cell.vm.isStatics = false) (hr : ∃ cell : Cell, H[b]? = some cell ∧ cell.vm.isStatics = false ∧ s.vm.findClass C = some cell.cls) (hP : va_P D vwCl wc H) (hD : va_D A wc) : PreV s H C b (va_Pc (.ref b :: As) (zPX D kk wc H.size)) As :=
  ⟨zPX_blind, hr, fun U hU hW => ⟨rfl, ⟨by rw [hU], by rw [hU]; exact hP, va_K.moved hW.alike hK, zN_warm hW hN, hD.weaken (fun _ _ _ _ => trivial)⟩, zY_warm hW (by rw [hU]; exact z_kept hS hn) hY⟩⟩
theorem z_nst {D : va_G} {W0 : va_W} {s : State} (hP : va_P D vwCl W0 s.heap) : ∀ q : Nat, va_A W0 s.heap.size q → ∀ cell : Cell, s.heap[q]? = some cell → cell.vm.isStatics = false := by
  intro q h cell hc
  rcases h with ⟨k, e, h⟩ | h
  · have ha := hP k (q, e) h
    cases e with
    | inl x =>
      have h1 : s.heap[q]? = some (vp_cell x.1 x.2) := ha
      cases h1.symm.trans hc
      obtain ⟨c, n, f | f | f | f | f⟩ := x <;> rfl
    | inr o =>
      obtain ⟨r, h1, cell', h2, h3, h4, -⟩ := ha
      cases h2.symm.trans hc
      rw [h4]
      rfl
  · exact absurd (Array.getElem?_eq_some_iff.mp hc).1 (Nat.not_lt.mpr h)
theorem zMetP {l : Launch} {y : MethodName} {rm : Room} {cc : ByteArray} {maxL : Nat} {ret : Option FieldType} {hh : List (Nat × Nat × Nat × Nat)} {w : Cond} {mc ms : Nat} {D : va_G} {kk : Nat → ClassId} {W0 : va_W} {sz : Nat} {av : List Value} {Qc : (Nat → Prop) → Array Value → State → Outcome → State → Prop}
    (htr : l.stackTraces = false) (hy : plainName y.cls = true) (hw : zCode y cc maxL ret hh w) (hlen : (lg_sl av).length ≤ maxL)
    (body : ∀ p e s m below meth c A, zX p s m av.toArray meth c cc maxL ret y.cls y.name D kk A → zH l s av.toArray A → c.exceptionTable.toList.map (fun h => (h.startPc, h.endPc, h.handlerPc, h.catchType)) = hh → l.admits e → va_P D vwCl W0 s.heap → va_D A W0 → va_S A s.heap s.heap [] → ∀ ls : Array Slot, lv_has ls maxL (lv_args 0 av) →
      W p l e rm s m av.toArray below meth c s.heap [] 0 0 (MT below (Qc A) av.toArray s mc ms A) (F0 m 0 ls [])) :
    MetX l y (w :: lw_all) rm (va_Pc av (zPX D kk W0 sz)) (Qc (va_A W0 sz)) mc ms (va_A W0 sz) := by
  refine zMetX hy hw ?_
  intro p e s m args below meth c hx hb hr hml hown hts hlk hnm htab had hv
  obtain ⟨rfl, ⟨hsz, hP, hK, hN, hD0⟩, hY⟩ := hv
  subst hsz
  rw [lg_entry_eq]
  exact body p e s m below meth c (va_A W0 s.heap.size) ⟨hx, hb, hr, hml, hown, hts, hlk, hnm, hK, hN, fun q h => Or.inr h⟩ ⟨htr, hts, hN, hY, fun q h => Or.inr h, z_nst hP⟩ htab had hP (hD0.self (sz := s.heap.size)) va_S.rf _ (lv_entry av hlen)
def zk : Nat → Nat
  | 0 => 0
  | 1 => 3
  | _ => 1
def zft : Nat → FieldType
  | 0 => .byte
  | 1 => .short
  | _ => .int
def zcn : Nat → String
  | 0 => "[B"
  | 1 => "[S"
  | _ => "[I"
/-- the arrays that sheets have had: of lane pk, length pn, contents pc, by their addresses -/
abbrev zPf (kk : Nat → ClassId) (pk pn : Nat → Nat) (pc : Nat → Nat → Int32) : Nat → va_E := fun a => .inl (kk (zk (pk a)), pn a, .inl (pc a))
abbrev zSX (kk : Nat → ClassId) (ad : Nat → Nat) (f : Nat → Int32) (g : Nat → Int64) (sr : Nat → Option Nat) : va_W := [zO ad f g, zQ (kk 6) (ad 25) 4 (zSf ad), zS (ad 26) (sr 0), zS (ad 27) (sr 1), zS (ad 28) (sr 2), zS (ad 29) (sr 3)]
theorem z_tk (kk : Nat → ClassId) (i : Nat) : (zT kk)[zk i]? = some (kk (zk i), zft i) := by
  match i with
  | 0 => rfl
  | 1 => rfl
  | n + 2 => rfl
theorem z_cn {s : State} {D : va_G} {kk : Nat → ClassId} (hK : va_K D vwCl (zT kk) s) (i : Nat) : s.vm.findClass (zcn i) = some (kk (zk i)) := by
  have h := (hK.2 (zk i) _ (z_tk kk i)).2
  match i, h with
  | 0, h => exact h
  | 1, h => exact h
  | n + 2, h => exact h
section ZI
variable {p : Program} {l : Launch} {e : Env} {R : Room} {s : State} {m : MethodId} {args : Array Value} {below : List Frame} {meth : Method} {c : Code} {H : Heap} {locs : List Loc} {cells slots : Nat} {Q : State → Prop}
variable {cc : ByteArray} {pc : Nat} {ls : Array Slot} {rest : List Value} {a : Nat}
theorem z_inst (hexec : p.tables.exec = Jvm.exec) (hb : c.code = cc) {own nm : String} {index : Nat} (hown : s.vm.findClass own = some m.cls) (hlink : (Cond.classLink own index nm).before args s = true) (hr : ∃ cell : Cell, H[a]? = some cell ∧ cell.vm.isStatics = false ∧ s.vm.findClass nm = some cell.cls) (hdg : decode cc pc = .ok (.instanceof index, 3))
    (k : W p l e R s m args below meth c H locs cells slots Q (F0 m (pc + 3) ls (.int 1 :: rest))) : W p l e R s m args below meth c H locs cells slots Q (F0 m pc ls (.ref a :: rest)) := by
  obtain ⟨cell, h1, h2, h3⟩ := hr
  intro T hT X
  obtain ⟨vm', X', st⟩ := X.instanceofYes hexec hown hlink (by rw [hT]; exact h1) h2 h3 (va_asg _ _) (g := F0 m pc ls (.ref a :: rest)) rfl rfl (by rw [hb]; exact hdg)
  obtain ⟨t, a1, b1⟩ := k (T.setVm vm') hT X'
  exact ⟨t, st t a1, b1⟩
theorem z_castT (hexec : p.tables.exec = Jvm.exec) (hb : c.code = cc) {own nm : String} {index : Nat} (hown : s.vm.findClass own = some m.cls) (hlink : (Cond.classLink own index nm).before args s = true) (hr : ∃ cell : Cell, H[a]? = some cell ∧ cell.vm.isStatics = false ∧ s.vm.findClass nm = some cell.cls) (hdg : decode cc pc = .ok (.checkcast index, 3))
    (k : W p l e R s m args below meth c H locs cells slots Q (F0 m (pc + 3) ls (.ref a :: rest))) : W p l e R s m args below meth c H locs cells slots Q (F0 m pc ls (.ref a :: rest)) := by
  obtain ⟨cell, h1, h2, h3⟩ := hr
  intro T hT X
  obtain ⟨vm', X', st⟩ := X.checkcastYes hexec hown hlink (by rw [hT]; exact h1) h2 h3 (va_asg _ _) (g := F0 m pc ls (.ref a :: rest)) rfl rfl (by rw [hb]; exact hdg)
  obtain ⟨t, a1, b1⟩ := k (T.setVm vm') hT X'
  exact ⟨t, st t a1, b1⟩
end ZI
/-- an array of the pool: its cell, its class -/
theorem z_pool {D : va_G} {kk : Nat → ClassId} {X : va_W} {L : List Nat} {pk pn : Nat → Nat} {pc : Nat → Nat → Int32} {H : Heap} {s : State} (hK : va_K D vwCl (zT kk) s) (hP : va_P D vwCl (X ++ va_pl L (zPf kk pk pn pc)) H) {a : Nat} (ha : a ∈ L) {i : Nat} (hi : pk a = i) :
    (∃ q0 : Nat, (X ++ va_pl L (zPf kk pk pn pc))[q0]? = some (a, .inl (kk (zk i), pn a, .inl (pc a)))) ∧ ∃ cell : Cell, H[a]? = some cell ∧ cell.vm.isStatics = false ∧ s.vm.findClass (zcn i) = some cell.cls := by
  obtain ⟨q0, h⟩ := va_pl_get (X := X) (f := zPf kk pk pn pc) ha
  have h2 : (X ++ va_pl L (zPf kk pk pn pc))[q0]? = some (a, .inl (kk (zk i), pn a, .inl (pc a))) := by rw [h, ← hi]
  refine ⟨⟨q0, h2⟩, vp_cell (kk (zk i)) (pn a, .inl (pc a)), hP q0 _ h2, rfl, z_cn hK i⟩
theorem z_poolset {kk : Nat → ClassId} {A : Nat → Prop} {X : va_W} {L : List Nat} {pk pn : Nat → Nat} {pc : Nat → Nat → Int32} {a q0 i : Nat} (hD : va_D A (X ++ va_pl L (zPf kk pk pn pc))) (ha : a ∈ L) (hi : pk a = i) (h : (X ++ va_pl L (zPf kk pk pn pc))[q0]? = some (a, .inl (kk (zk i), pn a, .inl (pc a)))) (v : Nat → Int32) :
    (X ++ va_pl L (zPf kk pk pn pc)).set q0 (a, .inl (kk (zk i), pn a, .inl v)) = X ++ va_pl L (zPf kk pk pn (va_up pc a v)) := by
  have h2 : (X ++ va_pl L (zPf kk pk pn pc))[q0]? = some (a, zPf kk pk pn pc a) := by rw [h, ← hi]
  rw [va_pl_set hD ha h2]
  congr 1
  refine va_pl_congr (fun b => ?_)
  by_cases hb : b = a
  · subst hb
    rw [va_up_self]
    show _ = Sum.inl (kk (zk (pk b)), pn b, Sum.inl (va_up pc b v b))
    rw [va_up_self, hi]
  · rw [va_up_ne _ _ hb]
    show _ = Sum.inl (kk (zk (pk b)), pn b, Sum.inl (va_up pc a v b))
    rw [va_up_ne _ _ hb]
