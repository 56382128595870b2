/-! calls that may throw, with the pool among the callee's cells or beside them -/
set_option maxRecDepth 100000
section ZP2
variable {p : Program} {l : Launch} {e : Env} {R : Room} {s : State} {m : MethodId} {args : Array Value} {below : List Frame} {meth : Method} {c : Code} {H : Heap} {locs : List Loc} {cells slots : Nat} {Q : State → Prop}
variable {cc : ByteArray} {pc : Nat} {ls : Array Slot} {rest st0 : List Value} {a : Array Value} {D : va_G} {A : Nat → Prop} {X pl cx wr : va_W} {ρ S ST : Type} {emb : ρ → Option Value} {rx pl1 : S → va_W} {rxT plT : Nat → ST → va_W} {CX : ST → String} {mc ms : Nat}
theorem zp_c {post : ρ → S → Prop} {postT : ST → Prop} (isC isR : List Nat) (hC : isC.map (fun i => X[i]?) = cx.map some) (hR : isR.map (fun i => X[i]?) = wr.map some) (hn : va_nd isR = true) (hnc : va_nd isC = true) (hdis : ∀ i ∈ isR, i ∉ isC) (hA : ∀ q : Nat, s.heap.size ≤ q → A q) (hP : va_P D vwCl (X ++ pl) H) (hD : va_D A (X ++ pl)) (hS : va_S A s.heap H locs)
    (hr : va_P D vwCl (cx ++ pl) H → va_D A (cx ++ pl) → zRunX p l e R s m args below meth c H locs cells slots mc ms (F0 m pc ls st0) rest (zQX emb post (zB D (va_A (cx ++ pl) H.size) (fun u => rx u ++ pl1 u)) postT (zBT D (va_A (cx ++ pl) H.size) (fun x u => rxT x u ++ plT x u) CX) (va_A (cx ++ pl) H.size) a) (va_A (cx ++ pl) H.size))
    (kk : ∀ (r : ρ) (u : S) (H1 : Heap) (locs1 : List Loc), post r u → va_P D vwCl ((wr ++ rx u) ++ pl1 u) H1 → va_D A ((wr ++ rx u) ++ pl1 u) → va_S A s.heap H1 locs1 → W p l e R s m args below meth c H1 locs1 (cells + mc) (slots + ms) Q (F0 m (pc + 3) ls ((emb r).toList ++ rest)))
    (kt : ∀ (x : Nat) (u : ST) (H1 : Heap) (locs1 : List Loc), postT u → va_P D vwCl ((wr ++ rxT x u) ++ plT x u) H1 → va_D A ((wr ++ rxT x u) ++ plT x u) → va_S A s.heap H1 locs1 → (∃ cell : Cell, H1[x]? = some cell ∧ cell.vm.isStatics = false ∧ s.vm.findClass (CX u) = some cell.cls) → WT p l e R s m args below meth c H1 locs1 (cells + mc) (slots + ms) Q (F0 m pc ls rest) x) :
    W p l e R s m args below meth c H locs cells slots Q (F0 m pc ls st0) := by
  have hFc : ∀ q, va_A (cx ++ pl) H.size q → A q := by
    rintro q (⟨k, e, h⟩ | h)
    · exact hD.2 _ _ (va_part isC hC k _ h)
    · exact hA q (Nat.le_trans hS.1 h)
  intro T hT X0
  obtain ⟨T', st₀, t, L, h0, X', hL, hH, hal, hh⟩ := hr (fun k q hq => hP _ q (va_part isC hC k q hq)) (hD.part isC hnc hC) T hT X0
  have hS1 : va_F (va_A (cx ++ pl) H.size) st₀ t → va_S A s.heap t.heap (locs ++ L) := by
    rintro ⟨hz, hk⟩
    rw [h0] at hz hk
    refine ⟨Nat.le_trans hS.1 hz, fun q h1 h2 => ?_, fun q hq => ?_⟩
    · rw [hk q (Nat.lt_of_lt_of_le h1 hS.1) (fun z => h2 (hFc q z))]
      exact hS.2.1 q h1 h2
    · rcases List.mem_append.mp hq with h | h
      · exact hS.2.2 q h
      · exact hFc _ (hL q h)
  rcases hh with ⟨v, ⟨hq, hF⟩, hgo⟩ | ⟨x, ⟨hq, hF⟩, hgo⟩
  · rcases hq with ⟨r, u, hv, hp, hP1, hD1⟩ | ⟨x, u, hv, -⟩
    · cases hv
      obtain ⟨hP2, hD2⟩ := va_joinP hP hD isC isR hC hR hn hdis (fun q h1 h2 => by have := hF.2 q (by rw [h0]; exact h1) h2; rw [h0] at this; exact this) hFc hP1 hD1
      obtain ⟨t2, a1, b1⟩ := kk r u t.heap (locs ++ L) hp hP2 hD2 (hS1 hF) T' hH X'
      exact ⟨t2, hgo t2 a1, b1⟩
    · cases hv
  · rcases hq with ⟨r, u, hv, -⟩ | ⟨x', u, hv, hp, hP1, hD1, cell, hc1, hc2, hc3⟩
    · cases hv
    · cases hv
      obtain ⟨hP2, hD2⟩ := va_joinP hP hD isC isR hC hR hn hdis (fun q h1 h2 => by have := hF.2 q (by rw [h0]; exact h1) h2; rw [h0] at this; exact this) hFc hP1 hD1
      obtain ⟨t2, a1, b1⟩ := kt _ u t.heap (locs ++ L) hp hP2 hD2 (hS1 hF) ⟨cell, hc1, hc2, by rw [← hal.findClass]; exact hc3⟩ T' hH X'
      exact ⟨t2, hgo t2 a1, b1⟩
/-- the fixed part, in another order -/
theorem z_re {X' : va_W} (is : List Nat) (hs : is.map (fun i => X[i]?) = X'.map some) (hn : va_nd is = true) : (va_P D vwCl (X ++ pl) H → va_P D vwCl (X' ++ pl) H) ∧ (va_D A (X ++ pl) → va_D A (X' ++ pl)) :=
  ⟨fun hP k q hq => hP _ q (va_part is hs k q hq), fun hD => hD.part is hn hs⟩
end ZP2
