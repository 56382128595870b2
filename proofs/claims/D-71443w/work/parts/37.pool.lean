/-! calls beside a pool: the callee's cells lie in the fixed part -/
set_option maxRecDepth 100000
theorem z_apC {X pl cx : va_W} {isC : List Nat} (hC : isC.map (fun i => X[i]?) = cx.map some) : isC.map (fun i => (X ++ pl)[i]?) = cx.map some := by
  rw [← hC]
  refine List.map_congr_left (fun i hi => ?_)
  have h1 : X[i]? ∈ isC.map (fun i => X[i]?) := List.mem_map.mpr ⟨i, hi, rfl⟩
  rw [hC] at h1
  obtain ⟨q, -, hq⟩ := List.mem_map.mp h1
  exact List.getElem?_append_left (List.getElem?_eq_some_iff.mp hq.symm).1
theorem z_fm {X cx : va_W} {isC : List Nat} (hC : isC.map (fun i => X[i]?) = cx.map some) : isC.filterMap (fun i => X[i]?) = cx := by
  have h1 : isC.filterMap (fun i => X[i]?) = (isC.map (fun i => X[i]?)).filterMap id := by rw [List.filterMap_map]; rfl
  rw [h1, hC, List.filterMap_map]
  simp
section ZQ
variable {p : Program} {l : Launch} {e : Env} {R : Room} {s : State} {m : MethodId} {args : Array Value} {below : List Frame} {meth : Method} {c : Code} {H : Heap} {locs : List Loc} {cells slots : Nat} {Q : State → Prop}
variable {cc : ByteArray} {pc : Nat} {ls : Array Slot} {rest st0 : List Value} {a : Array Value} {D : va_G} {A : Nat → Prop} {X pl wc wr : va_W} {ρ S ST : Type} {emb : ρ → Option Value} {w1 : S → va_W} {wT : Nat → ST → va_W} {CX : ST → String} {mc ms : Nat}
theorem zq_i {post : Int32 → S → Prop} (isC isR : List Nat) (hC : isC.map (fun i => X[i]?) = wc.map some) (hR : isR.map (fun i => X[i]?) = wr.map some) (hn : va_nd isR = true) (hnc : va_nd isC = true) (hdis : ∀ i ∈ isR, i ∉ isC) (hA : ∀ q : Nat, s.heap.size ≤ q → A q) (hP : va_P D vwCl (X ++ pl) H) (hD : va_D A (X ++ pl)) (hS : va_S A s.heap H locs)
    (hr : va_P D vwCl wc H → va_D A wc → va_Run p l e R s m args below meth c H locs cells slots mc ms (F0 m pc ls st0) rest (va_Qi post (zB D (va_A wc H.size) w1) (va_A wc H.size) a) (va_A wc H.size))
    (kk : ∀ (r : Int32) (u : S) (H1 : Heap) (locs1 : List Loc), post r u → va_P D vwCl ((wr ++ w1 u) ++ pl) H1 → va_D A ((wr ++ w1 u) ++ pl) → va_S A s.heap H1 locs1 → W p l e R s m args below meth c H1 locs1 (cells + mc) (slots + ms) Q (F0 m (pc + 3) ls (.int r :: rest))) :
    W p l e R s m args below meth c H locs cells slots Q (F0 m pc ls st0) := by
  have hC2 := z_apC (pl := pl) hC
  have hFc := va_free (wc := wc) hD hS hA isC hC2
  refine va_calli (hr (hP.sub isC (z_fm hC2)) (hD.sub isC hnc hC2)) hS (fun q _ h => hFc q h) hFc (fun r u t H1 locs1 ht hvm hw hB hz hk hS1 => ?_)
  obtain ⟨hP1, hD1⟩ := hB
  rw [ht] at hP1
  obtain ⟨hP2, hD2⟩ := va_joinQ hP hD isC isR hC hR hn hdis hk hFc hP1 hD1
  exact kk r u H1 locs1 hw hP2 hD2 hS1
theorem zq_l {post : Int64 → S → Prop} (isC isR : List Nat) (hC : isC.map (fun i => X[i]?) = wc.map some) (hR : isR.map (fun i => X[i]?) = wr.map some) (hn : va_nd isR = true) (hnc : va_nd isC = true) (hdis : ∀ i ∈ isR, i ∉ isC) (hA : ∀ q : Nat, s.heap.size ≤ q → A q) (hP : va_P D vwCl (X ++ pl) H) (hD : va_D A (X ++ pl)) (hS : va_S A s.heap H locs)
    (hr : va_P D vwCl wc H → va_D A wc → va_Run p l e R s m args below meth c H locs cells slots mc ms (F0 m pc ls st0) rest (va_Ql post (zB D (va_A wc H.size) w1) (va_A wc H.size) a) (va_A wc H.size))
    (kk : ∀ (r : Int64) (u : S) (H1 : Heap) (locs1 : List Loc), post r u → va_P D vwCl ((wr ++ w1 u) ++ pl) H1 → va_D A ((wr ++ w1 u) ++ pl) → va_S A s.heap H1 locs1 → W p l e R s m args below meth c H1 locs1 (cells + mc) (slots + ms) Q (F0 m (pc + 3) ls (.long r :: rest))) :
    W p l e R s m args below meth c H locs cells slots Q (F0 m pc ls st0) := by
  have hC2 := z_apC (pl := pl) hC
  have hFc := va_free (wc := wc) hD hS hA isC hC2
  refine va_calll (hr (hP.sub isC (z_fm hC2)) (hD.sub isC hnc hC2)) hS (fun q _ h => hFc q h) hFc (fun r u t H1 locs1 ht hvm hw hB hz hk hS1 => ?_)
  obtain ⟨hP1, hD1⟩ := hB
  rw [ht] at hP1
  obtain ⟨hP2, hD2⟩ := va_joinQ hP hD isC isR hC hR hn hdis hk hFc hP1 hD1
  exact kk r u H1 locs1 hw hP2 hD2 hS1
theorem zq_v {post : S → Prop} (isC isR : List Nat) (hC : isC.map (fun i => X[i]?) = wc.map some) (hR : isR.map (fun i => X[i]?) = wr.map some) (hn : va_nd isR = true) (hnc : va_nd isC = true) (hdis : ∀ i ∈ isR, i ∉ isC) (hA : ∀ q : Nat, s.heap.size ≤ q → A q) (hP : va_P D vwCl (X ++ pl) H) (hD : va_D A (X ++ pl)) (hS : va_S A s.heap H locs)
    (hr : va_P D vwCl wc H → va_D A wc → va_Run p l e R s m args below meth c H locs cells slots mc ms (F0 m pc ls st0) rest (va_Qv post (zB D (va_A wc H.size) w1) (va_A wc H.size) a) (va_A wc H.size))
    (kk : ∀ (u : S) (H1 : Heap) (locs1 : List Loc), post u → va_P D vwCl ((wr ++ w1 u) ++ pl) H1 → va_D A ((wr ++ w1 u) ++ pl) → va_S A s.heap H1 locs1 → W p l e R s m args below meth c H1 locs1 (cells + mc) (slots + ms) Q (F0 m (pc + 3) ls rest)) :
    W p l e R s m args below meth c H locs cells slots Q (F0 m pc ls st0) := by
  have hC2 := z_apC (pl := pl) hC
  have hFc := va_free (wc := wc) hD hS hA isC hC2
  refine va_callv (hr (hP.sub isC (z_fm hC2)) (hD.sub isC hnc hC2)) hS (fun q _ h => hFc q h) hFc (fun u t H1 locs1 ht hvm hw hB hz hk hS1 => ?_)
  obtain ⟨hP1, hD1⟩ := hB
  rw [ht] at hP1
  obtain ⟨hP2, hD2⟩ := va_joinQ hP hD isC isR hC hR hn hdis hk hFc hP1 hD1
  exact kk u H1 locs1 hw hP2 hD2 hS1
end ZQ
