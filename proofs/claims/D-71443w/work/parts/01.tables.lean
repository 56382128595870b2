/-- a private method of a class that the tables say can be made, by its rows of tables_1 -/
def lw_okq (q : MethodName × Nat) : Prop := (q.1.cls ≠ "java/lang/invoke/MethodHandle" ∧ q.1.cls ≠ "java/lang/invoke/VarHandle") ∧ Cond.instantiable q.1.cls q.2 ∈ tables_1 ∧ Cond.privateMethod q.1 ∈ tables_1 ∧ Cond.instanceMethod q.1 ∈ tables_1
set_option maxRecDepth 100000
theorem lw_t1 {w : Cond} (h : w ∈ tables_1_1) : w ∈ tables_1 := List.mem_append_left _ h
theorem lw_t2 {w : Cond} (h : w ∈ tables_1_2) : w ∈ tables_1 := List.mem_append_right _ (List.mem_append_left _ h)
theorem lw_t3 {w : Cond} (h : w ∈ tables_1_3) : w ∈ tables_1 := List.mem_append_right _ (List.mem_append_right _ (List.mem_append_left _ h))
theorem lw_t4 {w : Cond} (h : w ∈ tables_1_4) : w ∈ tables_1 := List.mem_append_right _ (List.mem_append_right _ (List.mem_append_right _ (List.mem_append_left _ h)))
theorem lw_t5 {w : Cond} (h : w ∈ tables_1_5) : w ∈ tables_1 := List.mem_append_right _ (List.mem_append_right _ (List.mem_append_right _ (List.mem_append_right _ (List.mem_append_left _ h))))
theorem lw_t6 {w : Cond} (h : w ∈ tables_1_6) : w ∈ tables_1 := List.mem_append_right _ (List.mem_append_right _ (List.mem_append_right _ (List.mem_append_right _ (List.mem_append_right _ h))))
theorem lw_p0 : lw_okq (⟨"LoseLeague$Reader", "next", "()V"⟩, 8) := ⟨⟨by decide +kernel, by decide +kernel⟩, lw_t1 (List.mem_of_getElem? (i := 204) rfl), lw_t1 (List.mem_of_getElem? (i := 212) rfl), lw_t1 (List.mem_of_getElem? (i := 213) rfl)⟩
theorem lw_p1 : lw_okq (⟨"LoseLeague$Reader", "isIn", "(CC)Z"⟩, 8) := ⟨⟨by decide +kernel, by decide +kernel⟩, lw_t1 (List.mem_of_getElem? (i := 204) rfl), lw_t1 (List.mem_of_getElem? (i := 216) rfl), lw_t1 (List.mem_of_getElem? (i := 217) rfl)⟩
theorem lw_p2 : lw_okq (⟨"LoseLeague$Reader", "need", "(ZI)V"⟩, 8) := ⟨⟨by decide +kernel, by decide +kernel⟩, lw_t1 (List.mem_of_getElem? (i := 204) rfl), lw_t1 (List.mem_of_getElem? (i := 220) rfl), lw_t1 (List.mem_of_getElem? (i := 221) rfl)⟩
theorem lw_p3 : lw_okq (⟨"java/lang/NullPointerException", "getExtendedNPEMessage", "()Ljava/lang/String;"⟩, 8) := ⟨⟨by decide +kernel, by decide +kernel⟩, lw_t2 (List.mem_of_getElem? (i := 23) rfl), lw_t2 (List.mem_of_getElem? (i := 21) rfl), lw_t2 (List.mem_of_getElem? (i := 22) rfl)⟩
theorem lw_p4 : lw_okq (⟨"java/lang/Throwable", "fillInStackTrace", "(I)Ljava/lang/Throwable;"⟩, 6) := ⟨⟨by decide +kernel, by decide +kernel⟩, lw_t2 (List.mem_of_getElem? (i := 35) rfl), lw_t2 (List.mem_of_getElem? (i := 33) rfl), lw_t2 (List.mem_of_getElem? (i := 34) rfl)⟩
theorem lw_p5 : lw_okq (⟨"LoseLeague$Reader", "line", "()V"⟩, 8) := ⟨⟨by decide +kernel, by decide +kernel⟩, lw_t1 (List.mem_of_getElem? (i := 204) rfl), lw_t2 (List.mem_of_getElem? (i := 98) rfl), lw_t2 (List.mem_of_getElem? (i := 99) rfl)⟩
theorem lw_p6 : lw_okq (⟨"LoseLeague$Reader", "is", "(I)Z"⟩, 8) := ⟨⟨by decide +kernel, by decide +kernel⟩, lw_t1 (List.mem_of_getElem? (i := 204) rfl), lw_t2 (List.mem_of_getElem? (i := 102) rfl), lw_t2 (List.mem_of_getElem? (i := 103) rfl)⟩
theorem lw_p7 : lw_okq (⟨"LoseLeague$Reader", "name", "(I)Ljava/lang/String;"⟩, 8) := ⟨⟨by decide +kernel, by decide +kernel⟩, lw_t1 (List.mem_of_getElem? (i := 204) rfl), lw_t2 (List.mem_of_getElem? (i := 106) rfl), lw_t2 (List.mem_of_getElem? (i := 107) rfl)⟩
theorem lw_p8 : lw_okq (⟨"LoseLeague$Reader", "game", "()V"⟩, 8) := ⟨⟨by decide +kernel, by decide +kernel⟩, lw_t1 (List.mem_of_getElem? (i := 204) rfl), lw_t2 (List.mem_of_getElem? (i := 163) rfl), lw_t2 (List.mem_of_getElem? (i := 164) rfl)⟩
theorem lw_p9 : lw_okq (⟨"LoseLeague$Reader", "looked", "(I)I"⟩, 8) := ⟨⟨by decide +kernel, by decide +kernel⟩, lw_t1 (List.mem_of_getElem? (i := 204) rfl), lw_t2 (List.mem_of_getElem? (i := 167) rfl), lw_t2 (List.mem_of_getElem? (i := 168) rfl)⟩
theorem lw_p10 : lw_okq (⟨"LoseLeague", "isTown", "(I)Z"⟩, 25) := ⟨⟨by decide +kernel, by decide +kernel⟩, lw_t1 (List.mem_of_getElem? (i := 27) rfl), lw_t2 (List.mem_of_getElem? (i := 222) rfl), lw_t2 (List.mem_of_getElem? (i := 223) rfl)⟩
theorem lw_p11 : lw_okq (⟨"LoseLeague", "plays", "(LLoseLeague$League;I)I"⟩, 25) := ⟨⟨by decide +kernel, by decide +kernel⟩, lw_t1 (List.mem_of_getElem? (i := 27) rfl), lw_t2 (List.mem_of_getElem? (i := 228) rfl), lw_t2 (List.mem_of_getElem? (i := 229) rfl)⟩
theorem lw_p12 : lw_okq (⟨"LoseLeague", "areTwo", "(II)Z"⟩, 25) := ⟨⟨by decide +kernel, by decide +kernel⟩, lw_t1 (List.mem_of_getElem? (i := 27) rfl), lw_t3 (List.mem_of_getElem? (i := 21) rfl), lw_t3 (List.mem_of_getElem? (i := 22) rfl)⟩
theorem lw_p13 : lw_okq (⟨"LoseLeague", "loserOf", "(LLoseLeague$League;II)I"⟩, 25) := ⟨⟨by decide +kernel, by decide +kernel⟩, lw_t1 (List.mem_of_getElem? (i := 27) rfl), lw_t3 (List.mem_of_getElem? (i := 25) rfl), lw_t3 (List.mem_of_getElem? (i := 26) rfl)⟩
theorem lw_p14 : lw_okq (⟨"LoseLeague", "whyNot", "(III)I"⟩, 25) := ⟨⟨by decide +kernel, by decide +kernel⟩, lw_t1 (List.mem_of_getElem? (i := 27) rfl), lw_t3 (List.mem_of_getElem? (i := 40) rfl), lw_t3 (List.mem_of_getElem? (i := 41) rfl)⟩
theorem lw_p15 : lw_okq (⟨"LoseLeague", "weeksGo", "(LLoseLeague$League;I)V"⟩, 25) := ⟨⟨by decide +kernel, by decide +kernel⟩, lw_t1 (List.mem_of_getElem? (i := 27) rfl), lw_t3 (List.mem_of_getElem? (i := 61) rfl), lw_t3 (List.mem_of_getElem? (i := 62) rfl)⟩
def lw_privs_1 : List (MethodName × Nat) := [(⟨"LoseLeague$Reader", "next", "()V"⟩, 8), (⟨"LoseLeague$Reader", "isIn", "(CC)Z"⟩, 8), (⟨"LoseLeague$Reader", "need", "(ZI)V"⟩, 8), (⟨"java/lang/NullPointerException", "getExtendedNPEMessage", "()Ljava/lang/String;"⟩, 8), (⟨"java/lang/Throwable", "fillInStackTrace", "(I)Ljava/lang/Throwable;"⟩, 6), (⟨"LoseLeague$Reader", "line", "()V"⟩, 8), (⟨"LoseLeague$Reader", "is", "(I)Z"⟩, 8), (⟨"LoseLeague$Reader", "name", "(I)Ljava/lang/String;"⟩, 8), (⟨"LoseLeague$Reader", "game", "()V"⟩, 8), (⟨"LoseLeague$Reader", "looked", "(I)I"⟩, 8), (⟨"LoseLeague", "isTown", "(I)Z"⟩, 25), (⟨"LoseLeague", "plays", "(LLoseLeague$League;I)I"⟩, 25), (⟨"LoseLeague", "areTwo", "(II)Z"⟩, 25), (⟨"LoseLeague", "loserOf", "(LLoseLeague$League;II)I"⟩, 25), (⟨"LoseLeague", "whyNot", "(III)I"⟩, 25), (⟨"LoseLeague", "weeksGo", "(LLoseLeague$League;I)V"⟩, 25)]
theorem lw_r1 : ∀ q ∈ lw_privs_1, lw_okq q := List.forall_mem_cons.mpr ⟨lw_p0, List.forall_mem_cons.mpr ⟨lw_p1, List.forall_mem_cons.mpr ⟨lw_p2, List.forall_mem_cons.mpr ⟨lw_p3, List.forall_mem_cons.mpr ⟨lw_p4, List.forall_mem_cons.mpr ⟨lw_p5, List.forall_mem_cons.mpr ⟨lw_p6, List.forall_mem_cons.mpr ⟨lw_p7, List.forall_mem_cons.mpr ⟨lw_p8, List.forall_mem_cons.mpr ⟨lw_p9, List.forall_mem_cons.mpr ⟨lw_p10, List.forall_mem_cons.mpr ⟨lw_p11, List.forall_mem_cons.mpr ⟨lw_p12, List.forall_mem_cons.mpr ⟨lw_p13, List.forall_mem_cons.mpr ⟨lw_p14, List.forall_mem_cons.mpr ⟨lw_p15, fun _ h => absurd h List.not_mem_nil⟩⟩⟩⟩⟩⟩⟩⟩⟩⟩⟩⟩⟩⟩⟩⟩
theorem lw_p16 : lw_okq (⟨"LoseLeague", "startsCounting", "()V"⟩, 25) := ⟨⟨by decide +kernel, by decide +kernel⟩, lw_t1 (List.mem_of_getElem? (i := 27) rfl), lw_t3 (List.mem_of_getElem? (i := 65) rfl), lw_t3 (List.mem_of_getElem? (i := 66) rfl)⟩
theorem lw_p17 : lw_okq (⟨"LoseLeague", "weekGoes", "(LLoseLeague$League;Z)V"⟩, 25) := ⟨⟨by decide +kernel, by decide +kernel⟩, lw_t1 (List.mem_of_getElem? (i := 27) rfl), lw_t3 (List.mem_of_getElem? (i := 69) rfl), lw_t3 (List.mem_of_getElem? (i := 70) rfl)⟩
theorem lw_p18 : lw_okq (⟨"LoseLeague", "isPlayed", "(LLoseLeague$League;II)V"⟩, 25) := ⟨⟨by decide +kernel, by decide +kernel⟩, lw_t1 (List.mem_of_getElem? (i := 27) rfl), lw_t3 (List.mem_of_getElem? (i := 73) rfl), lw_t3 (List.mem_of_getElem? (i := 74) rfl)⟩
theorem lw_p19 : lw_okq (⟨"LoseLeague", "weekEnds", "(LLoseLeague$League;)V"⟩, 25) := ⟨⟨by decide +kernel, by decide +kernel⟩, lw_t1 (List.mem_of_getElem? (i := 27) rfl), lw_t3 (List.mem_of_getElem? (i := 101) rfl), lw_t3 (List.mem_of_getElem? (i := 102) rfl)⟩
theorem lw_p20 : lw_okq (⟨"LoseLeague", "findOrder", "()V"⟩, 25) := ⟨⟨by decide +kernel, by decide +kernel⟩, lw_t1 (List.mem_of_getElem? (i := 27) rfl), lw_t3 (List.mem_of_getElem? (i := 137) rfl), lw_t3 (List.mem_of_getElem? (i := 138) rfl)⟩
theorem lw_p21 : lw_okq (⟨"LoseLeague", "startsJudging", "(I)V"⟩, 25) := ⟨⟨by decide +kernel, by decide +kernel⟩, lw_t1 (List.mem_of_getElem? (i := 27) rfl), lw_t3 (List.mem_of_getElem? (i := 142) rfl), lw_t3 (List.mem_of_getElem? (i := 143) rfl)⟩
theorem lw_p22 : lw_okq (⟨"LoseLeague", "owedByTried", "(I)I"⟩, 25) := ⟨⟨by decide +kernel, by decide +kernel⟩, lw_t1 (List.mem_of_getElem? (i := 27) rfl), lw_t3 (List.mem_of_getElem? (i := 150) rfl), lw_t3 (List.mem_of_getElem? (i := 151) rfl)⟩
theorem lw_p23 : lw_okq (⟨"LoseLeague", "judges", "(II)V"⟩, 25) := ⟨⟨by decide +kernel, by decide +kernel⟩, lw_t1 (List.mem_of_getElem? (i := 27) rfl), lw_t3 (List.mem_of_getElem? (i := 154) rfl), lw_t3 (List.mem_of_getElem? (i := 155) rfl)⟩
theorem lw_p24 : lw_okq (⟨"LoseLeague", "goesOn", "(I)Z"⟩, 25) := ⟨⟨by decide +kernel, by decide +kernel⟩, lw_t1 (List.mem_of_getElem? (i := 27) rfl), lw_t3 (List.mem_of_getElem? (i := 160) rfl), lw_t3 (List.mem_of_getElem? (i := 161) rfl)⟩
theorem lw_p25 : lw_okq (⟨"LoseLeague", "trades", "(II)V"⟩, 25) := ⟨⟨by decide +kernel, by decide +kernel⟩, lw_t1 (List.mem_of_getElem? (i := 27) rfl), lw_t3 (List.mem_of_getElem? (i := 164) rfl), lw_t3 (List.mem_of_getElem? (i := 165) rfl)⟩
theorem lw_p26 : lw_okq (⟨"LoseLeague", "startsByNow", "(I)V"⟩, 25) := ⟨⟨by decide +kernel, by decide +kernel⟩, lw_t1 (List.mem_of_getElem? (i := 27) rfl), lw_t3 (List.mem_of_getElem? (i := 172) rfl), lw_t3 (List.mem_of_getElem? (i := 173) rfl)⟩
theorem lw_p27 : lw_okq (⟨"LoseLeague", "judged", "(I)I"⟩, 25) := ⟨⟨by decide +kernel, by decide +kernel⟩, lw_t1 (List.mem_of_getElem? (i := 27) rfl), lw_t3 (List.mem_of_getElem? (i := 176) rfl), lw_t3 (List.mem_of_getElem? (i := 177) rfl)⟩
theorem lw_p28 : lw_okq (⟨"LoseLeague", "findOdds", "(III)V"⟩, 25) := ⟨⟨by decide +kernel, by decide +kernel⟩, lw_t1 (List.mem_of_getElem? (i := 27) rfl), lw_t3 (List.mem_of_getElem? (i := 205) rfl), lw_t3 (List.mem_of_getElem? (i := 206) rfl)⟩
theorem lw_p29 : lw_okq (⟨"LoseLeague", "which", "(III)I"⟩, 25) := ⟨⟨by decide +kernel, by decide +kernel⟩, lw_t1 (List.mem_of_getElem? (i := 27) rfl), lw_t3 (List.mem_of_getElem? (i := 228) rfl), lw_t3 (List.mem_of_getElem? (i := 229) rfl)⟩
theorem lw_p30 : lw_okq (⟨"LoseLeague", "isSo", "(III)Z"⟩, 25) := ⟨⟨by decide +kernel, by decide +kernel⟩, lw_t1 (List.mem_of_getElem? (i := 27) rfl), lw_t3 (List.mem_of_getElem? (i := 232) rfl), lw_t3 (List.mem_of_getElem? (i := 233) rfl)⟩
theorem lw_p31 : lw_okq (⟨"LoseLeague", "findStrengths", "(I)I"⟩, 25) := ⟨⟨by decide +kernel, by decide +kernel⟩, lw_t1 (List.mem_of_getElem? (i := 27) rfl), lw_t4 (List.mem_of_getElem? (i := 4) rfl), lw_t4 (List.mem_of_getElem? (i := 5) rfl)⟩
def lw_privs_2 : List (MethodName × Nat) := [(⟨"LoseLeague", "startsCounting", "()V"⟩, 25), (⟨"LoseLeague", "weekGoes", "(LLoseLeague$League;Z)V"⟩, 25), (⟨"LoseLeague", "isPlayed", "(LLoseLeague$League;II)V"⟩, 25), (⟨"LoseLeague", "weekEnds", "(LLoseLeague$League;)V"⟩, 25), (⟨"LoseLeague", "findOrder", "()V"⟩, 25), (⟨"LoseLeague", "startsJudging", "(I)V"⟩, 25), (⟨"LoseLeague", "owedByTried", "(I)I"⟩, 25), (⟨"LoseLeague", "judges", "(II)V"⟩, 25), (⟨"LoseLeague", "goesOn", "(I)Z"⟩, 25), (⟨"LoseLeague", "trades", "(II)V"⟩, 25), (⟨"LoseLeague", "startsByNow", "(I)V"⟩, 25), (⟨"LoseLeague", "judged", "(I)I"⟩, 25), (⟨"LoseLeague", "findOdds", "(III)V"⟩, 25), (⟨"LoseLeague", "which", "(III)I"⟩, 25), (⟨"LoseLeague", "isSo", "(III)Z"⟩, 25), (⟨"LoseLeague", "findStrengths", "(I)I"⟩, 25)]
theorem lw_r2 : ∀ q ∈ lw_privs_2, lw_okq q := List.forall_mem_cons.mpr ⟨lw_p16, List.forall_mem_cons.mpr ⟨lw_p17, List.forall_mem_cons.mpr ⟨lw_p18, List.forall_mem_cons.mpr ⟨lw_p19, List.forall_mem_cons.mpr ⟨lw_p20, List.forall_mem_cons.mpr ⟨lw_p21, List.forall_mem_cons.mpr ⟨lw_p22, List.forall_mem_cons.mpr ⟨lw_p23, List.forall_mem_cons.mpr ⟨lw_p24, List.forall_mem_cons.mpr ⟨lw_p25, List.forall_mem_cons.mpr ⟨lw_p26, List.forall_mem_cons.mpr ⟨lw_p27, List.forall_mem_cons.mpr ⟨lw_p28, List.forall_mem_cons.mpr ⟨lw_p29, List.forall_mem_cons.mpr ⟨lw_p30, List.forall_mem_cons.mpr ⟨lw_p31, fun _ h => absurd h List.not_mem_nil⟩⟩⟩⟩⟩⟩⟩⟩⟩⟩⟩⟩⟩⟩⟩⟩
theorem lw_p32 : lw_okq (⟨"LoseLeague", "worstAt", "(II)I"⟩, 25) := ⟨⟨by decide +kernel, by decide +kernel⟩, lw_t1 (List.mem_of_getElem? (i := 27) rfl), lw_t4 (List.mem_of_getElem? (i := 8) rfl), lw_t4 (List.mem_of_getElem? (i := 9) rfl)⟩
theorem lw_p33 : lw_okq (⟨"LoseLeague", "takenOf", "(III)I"⟩, 25) := ⟨⟨by decide +kernel, by decide +kernel⟩, lw_t1 (List.mem_of_getElem? (i := 27) rfl), lw_t4 (List.mem_of_getElem? (i := 132) rfl), lw_t4 (List.mem_of_getElem? (i := 133) rfl)⟩
theorem lw_p34 : lw_okq (⟨"LoseLeagueModel", "step", "()V"⟩, 29) := ⟨⟨by decide +kernel, by decide +kernel⟩, lw_t4 (List.mem_of_getElem? (i := 151) rfl), lw_t5 (List.mem_of_getElem? (i := 22) rfl), lw_t5 (List.mem_of_getElem? (i := 23) rfl)⟩
theorem lw_p35 : lw_okq (⟨"LoseLeagueModel", "byteAt", "(I)I"⟩, 29) := ⟨⟨by decide +kernel, by decide +kernel⟩, lw_t4 (List.mem_of_getElem? (i := 151) rfl), lw_t5 (List.mem_of_getElem? (i := 26) rfl), lw_t5 (List.mem_of_getElem? (i := 27) rfl)⟩
theorem lw_p36 : lw_okq (⟨"LoseLeagueModel", "fails", "(I)V"⟩, 29) := ⟨⟨by decide +kernel, by decide +kernel⟩, lw_t4 (List.mem_of_getElem? (i := 151) rfl), lw_t5 (List.mem_of_getElem? (i := 34) rfl), lw_t5 (List.mem_of_getElem? (i := 35) rfl)⟩
theorem lw_p37 : lw_okq (⟨"LoseLeagueModel", "readLine", "()V"⟩, 29) := ⟨⟨by decide +kernel, by decide +kernel⟩, lw_t4 (List.mem_of_getElem? (i := 151) rfl), lw_t5 (List.mem_of_getElem? (i := 38) rfl), lw_t5 (List.mem_of_getElem? (i := 39) rfl)⟩
theorem lw_p38 : lw_okq (⟨"LoseLeagueModel", "nameHere", "()I"⟩, 29) := ⟨⟨by decide +kernel, by decide +kernel⟩, lw_t4 (List.mem_of_getElem? (i := 151) rfl), lw_t5 (List.mem_of_getElem? (i := 42) rfl), lw_t5 (List.mem_of_getElem? (i := 43) rfl)⟩
theorem lw_p39 : lw_okq (⟨"LoseLeagueModel", "readMore", "(I)V"⟩, 29) := ⟨⟨by decide +kernel, by decide +kernel⟩, lw_t4 (List.mem_of_getElem? (i := 151) rfl), lw_t5 (List.mem_of_getElem? (i := 47) rfl), lw_t5 (List.mem_of_getElem? (i := 48) rfl)⟩
theorem lw_p40 : lw_okq (⟨"LoseLeagueModel", "number", "(II)I"⟩, 29) := ⟨⟨by decide +kernel, by decide +kernel⟩, lw_t4 (List.mem_of_getElem? (i := 151) rfl), lw_t5 (List.mem_of_getElem? (i := 51) rfl), lw_t5 (List.mem_of_getElem? (i := 52) rfl)⟩
theorem lw_p41 : lw_okq (⟨"LoseLeagueModel", "townHere", "()I"⟩, 29) := ⟨⟨by decide +kernel, by decide +kernel⟩, lw_t4 (List.mem_of_getElem? (i := 151) rfl), lw_t5 (List.mem_of_getElem? (i := 55) rfl), lw_t5 (List.mem_of_getElem? (i := 56) rfl)⟩
theorem lw_p42 : lw_okq (⟨"LoseLeagueModel", "placeOn", "(I)I"⟩, 29) := ⟨⟨by decide +kernel, by decide +kernel⟩, lw_t4 (List.mem_of_getElem? (i := 151) rfl), lw_t5 (List.mem_of_getElem? (i := 67) rfl), lw_t5 (List.mem_of_getElem? (i := 68) rfl)⟩
theorem lw_p43 : lw_okq (⟨"LoseLeagueModel", "losersOn", "(I)I"⟩, 29) := ⟨⟨by decide +kernel, by decide +kernel⟩, lw_t4 (List.mem_of_getElem? (i := 151) rfl), lw_t5 (List.mem_of_getElem? (i := 71) rfl), lw_t5 (List.mem_of_getElem? (i := 72) rfl)⟩
theorem lw_p44 : lw_okq (⟨"LoseLeagueModel", "owedOn", "(I)I"⟩, 29) := ⟨⟨by decide +kernel, by decide +kernel⟩, lw_t4 (List.mem_of_getElem? (i := 151) rfl), lw_t5 (List.mem_of_getElem? (i := 75) rfl), lw_t5 (List.mem_of_getElem? (i := 76) rfl)⟩
theorem lw_p45 : lw_okq (⟨"LoseLeagueModel", "isTown", "(I)Z"⟩, 29) := ⟨⟨by decide +kernel, by decide +kernel⟩, lw_t4 (List.mem_of_getElem? (i := 151) rfl), lw_t5 (List.mem_of_getElem? (i := 83) rfl), lw_t5 (List.mem_of_getElem? (i := 84) rfl)⟩
theorem lw_p46 : lw_okq (⟨"LoseLeagueModel", "playsOn", "(II)I"⟩, 29) := ⟨⟨by decide +kernel, by decide +kernel⟩, lw_t4 (List.mem_of_getElem? (i := 151) rfl), lw_t5 (List.mem_of_getElem? (i := 87) rfl), lw_t5 (List.mem_of_getElem? (i := 88) rfl)⟩
theorem lw_p47 : lw_okq (⟨"LoseLeagueModel", "isFixture", "(I)Z"⟩, 29) := ⟨⟨by decide +kernel, by decide +kernel⟩, lw_t4 (List.mem_of_getElem? (i := 151) rfl), lw_t5 (List.mem_of_getElem? (i := 95) rfl), lw_t5 (List.mem_of_getElem? (i := 96) rfl)⟩
def lw_privs_3 : List (MethodName × Nat) := [(⟨"LoseLeague", "worstAt", "(II)I"⟩, 25), (⟨"LoseLeague", "takenOf", "(III)I"⟩, 25), (⟨"LoseLeagueModel", "step", "()V"⟩, 29), (⟨"LoseLeagueModel", "byteAt", "(I)I"⟩, 29), (⟨"LoseLeagueModel", "fails", "(I)V"⟩, 29), (⟨"LoseLeagueModel", "readLine", "()V"⟩, 29), (⟨"LoseLeagueModel", "nameHere", "()I"⟩, 29), (⟨"LoseLeagueModel", "readMore", "(I)V"⟩, 29), (⟨"LoseLeagueModel", "number", "(II)I"⟩, 29), (⟨"LoseLeagueModel", "townHere", "()I"⟩, 29), (⟨"LoseLeagueModel", "placeOn", "(I)I"⟩, 29), (⟨"LoseLeagueModel", "losersOn", "(I)I"⟩, 29), (⟨"LoseLeagueModel", "owedOn", "(I)I"⟩, 29), (⟨"LoseLeagueModel", "isTown", "(I)Z"⟩, 29), (⟨"LoseLeagueModel", "playsOn", "(II)I"⟩, 29), (⟨"LoseLeagueModel", "isFixture", "(I)Z"⟩, 29)]
theorem lw_r3 : ∀ q ∈ lw_privs_3, lw_okq q := List.forall_mem_cons.mpr ⟨lw_p32, List.forall_mem_cons.mpr ⟨lw_p33, List.forall_mem_cons.mpr ⟨lw_p34, List.forall_mem_cons.mpr ⟨lw_p35, List.forall_mem_cons.mpr ⟨lw_p36, List.forall_mem_cons.mpr ⟨lw_p37, List.forall_mem_cons.mpr ⟨lw_p38, List.forall_mem_cons.mpr ⟨lw_p39, List.forall_mem_cons.mpr ⟨lw_p40, List.forall_mem_cons.mpr ⟨lw_p41, List.forall_mem_cons.mpr ⟨lw_p42, List.forall_mem_cons.mpr ⟨lw_p43, List.forall_mem_cons.mpr ⟨lw_p44, List.forall_mem_cons.mpr ⟨lw_p45, List.forall_mem_cons.mpr ⟨lw_p46, List.forall_mem_cons.mpr ⟨lw_p47, fun _ h => absurd h List.not_mem_nil⟩⟩⟩⟩⟩⟩⟩⟩⟩⟩⟩⟩⟩⟩⟩⟩
theorem lw_p48 : lw_okq (⟨"LoseLeagueModel", "isPair", "(II)Z"⟩, 29) := ⟨⟨by decide +kernel, by decide +kernel⟩, lw_t4 (List.mem_of_getElem? (i := 151) rfl), lw_t5 (List.mem_of_getElem? (i := 103) rfl), lw_t5 (List.mem_of_getElem? (i := 104) rfl)⟩
theorem lw_p49 : lw_okq (⟨"LoseLeagueModel", "gameOn", "(III)I"⟩, 29) := ⟨⟨by decide +kernel, by decide +kernel⟩, lw_t4 (List.mem_of_getElem? (i := 151) rfl), lw_t5 (List.mem_of_getElem? (i := 107) rfl), lw_t5 (List.mem_of_getElem? (i := 108) rfl)⟩
theorem lw_p50 : lw_okq (⟨"LoseLeagueModel", "puts", "(ZII)I"⟩, 29) := ⟨⟨by decide +kernel, by decide +kernel⟩, lw_t4 (List.mem_of_getElem? (i := 151) rfl), lw_t5 (List.mem_of_getElem? (i := 116) rfl), lw_t5 (List.mem_of_getElem? (i := 117) rfl)⟩
theorem lw_p51 : lw_okq (⟨"LoseLeagueModel", "lendsOn", "(IIII)I"⟩, 29) := ⟨⟨by decide +kernel, by decide +kernel⟩, lw_t4 (List.mem_of_getElem? (i := 151) rfl), lw_t5 (List.mem_of_getElem? (i := 125) rfl), lw_t5 (List.mem_of_getElem? (i := 126) rfl)⟩
theorem lw_p52 : lw_okq (⟨"LoseLeagueModel", "books", "(II)I"⟩, 29) := ⟨⟨by decide +kernel, by decide +kernel⟩, lw_t4 (List.mem_of_getElem? (i := 151) rfl), lw_t5 (List.mem_of_getElem? (i := 133) rfl), lw_t5 (List.mem_of_getElem? (i := 134) rfl)⟩
theorem lw_p53 : lw_okq (⟨"LoseLeagueModel", "weekOn", "(IZ)V"⟩, 29) := ⟨⟨by decide +kernel, by decide +kernel⟩, lw_t4 (List.mem_of_getElem? (i := 151) rfl), lw_t5 (List.mem_of_getElem? (i := 146) rfl), lw_t5 (List.mem_of_getElem? (i := 147) rfl)⟩
theorem lw_p54 : lw_okq (⟨"LoseLeagueModel", "playedOn", "(III)V"⟩, 29) := ⟨⟨by decide +kernel, by decide +kernel⟩, lw_t4 (List.mem_of_getElem? (i := 151) rfl), lw_t5 (List.mem_of_getElem? (i := 150) rfl), lw_t5 (List.mem_of_getElem? (i := 151) rfl)⟩
theorem lw_p55 : lw_okq (⟨"LoseLeagueModel", "yearsEnd", "(I)V"⟩, 29) := ⟨⟨by decide +kernel, by decide +kernel⟩, lw_t4 (List.mem_of_getElem? (i := 151) rfl), lw_t5 (List.mem_of_getElem? (i := 154) rfl), lw_t5 (List.mem_of_getElem? (i := 155) rfl)⟩
theorem lw_p56 : lw_okq (⟨"LoseLeagueModel", "weeksGo", "(II)I"⟩, 29) := ⟨⟨by decide +kernel, by decide +kernel⟩, lw_t4 (List.mem_of_getElem? (i := 151) rfl), lw_t5 (List.mem_of_getElem? (i := 163) rfl), lw_t5 (List.mem_of_getElem? (i := 164) rfl)⟩
theorem lw_p57 : lw_okq (⟨"LoseLeagueModel", "copies", "(II)V"⟩, 29) := ⟨⟨by decide +kernel, by decide +kernel⟩, lw_t4 (List.mem_of_getElem? (i := 151) rfl), lw_t5 (List.mem_of_getElem? (i := 167) rfl), lw_t5 (List.mem_of_getElem? (i := 168) rfl)⟩
theorem lw_p58 : lw_okq (⟨"LoseLeagueModel", "firstLoss", "(III)I"⟩, 29) := ⟨⟨by decide +kernel, by decide +kernel⟩, lw_t4 (List.mem_of_getElem? (i := 151) rfl), lw_t5 (List.mem_of_getElem? (i := 184) rfl), lw_t5 (List.mem_of_getElem? (i := 185) rfl)⟩
theorem lw_p59 : lw_okq (⟨"LoseLeagueModel", "ordered", "(I)Z"⟩, 29) := ⟨⟨by decide +kernel, by decide +kernel⟩, lw_t4 (List.mem_of_getElem? (i := 151) rfl), lw_t5 (List.mem_of_getElem? (i := 195) rfl), lw_t5 (List.mem_of_getElem? (i := 196) rfl)⟩
theorem lw_p60 : lw_okq (⟨"LoseLeagueModel", "byRain", "(IIII)J"⟩, 29) := ⟨⟨by decide +kernel, by decide +kernel⟩, lw_t4 (List.mem_of_getElem? (i := 151) rfl), lw_t5 (List.mem_of_getElem? (i := 224) rfl), lw_t5 (List.mem_of_getElem? (i := 225) rfl)⟩
theorem lw_p61 : lw_okq (⟨"LoseLeagueModel", "numbersAt", "(II)I"⟩, 29) := ⟨⟨by decide +kernel, by decide +kernel⟩, lw_t4 (List.mem_of_getElem? (i := 151) rfl), lw_t6 (List.mem_of_getElem? (i := 8) rfl), lw_t6 (List.mem_of_getElem? (i := 9) rfl)⟩
theorem lw_p62 : lw_okq (⟨"LoseLeagueModel", "isAsSeen", "(I)Z"⟩, 29) := ⟨⟨by decide +kernel, by decide +kernel⟩, lw_t4 (List.mem_of_getElem? (i := 151) rfl), lw_t6 (List.mem_of_getElem? (i := 12) rfl), lw_t6 (List.mem_of_getElem? (i := 13) rfl)⟩
def lw_privs_4 : List (MethodName × Nat) := [(⟨"LoseLeagueModel", "isPair", "(II)Z"⟩, 29), (⟨"LoseLeagueModel", "gameOn", "(III)I"⟩, 29), (⟨"LoseLeagueModel", "puts", "(ZII)I"⟩, 29), (⟨"LoseLeagueModel", "lendsOn", "(IIII)I"⟩, 29), (⟨"LoseLeagueModel", "books", "(II)I"⟩, 29), (⟨"LoseLeagueModel", "weekOn", "(IZ)V"⟩, 29), (⟨"LoseLeagueModel", "playedOn", "(III)V"⟩, 29), (⟨"LoseLeagueModel", "yearsEnd", "(I)V"⟩, 29), (⟨"LoseLeagueModel", "weeksGo", "(II)I"⟩, 29), (⟨"LoseLeagueModel", "copies", "(II)V"⟩, 29), (⟨"LoseLeagueModel", "firstLoss", "(III)I"⟩, 29), (⟨"LoseLeagueModel", "ordered", "(I)Z"⟩, 29), (⟨"LoseLeagueModel", "byRain", "(IIII)J"⟩, 29), (⟨"LoseLeagueModel", "numbersAt", "(II)I"⟩, 29), (⟨"LoseLeagueModel", "isAsSeen", "(I)Z"⟩, 29)]
theorem lw_r4 : ∀ q ∈ lw_privs_4, lw_okq q := List.forall_mem_cons.mpr ⟨lw_p48, List.forall_mem_cons.mpr ⟨lw_p49, List.forall_mem_cons.mpr ⟨lw_p50, List.forall_mem_cons.mpr ⟨lw_p51, List.forall_mem_cons.mpr ⟨lw_p52, List.forall_mem_cons.mpr ⟨lw_p53, List.forall_mem_cons.mpr ⟨lw_p54, List.forall_mem_cons.mpr ⟨lw_p55, List.forall_mem_cons.mpr ⟨lw_p56, List.forall_mem_cons.mpr ⟨lw_p57, List.forall_mem_cons.mpr ⟨lw_p58, List.forall_mem_cons.mpr ⟨lw_p59, List.forall_mem_cons.mpr ⟨lw_p60, List.forall_mem_cons.mpr ⟨lw_p61, List.forall_mem_cons.mpr ⟨lw_p62, fun _ h => absurd h List.not_mem_nil⟩⟩⟩⟩⟩⟩⟩⟩⟩⟩⟩⟩⟩⟩⟩
def lw_privs : List (MethodName × Nat) := lw_privs_1 ++ (lw_privs_2 ++ (lw_privs_3 ++ (lw_privs_4)))
def lw_tbl : List Cond := k2_sels lw_privs ++ tables_1
theorem lw_privs_ok : ∀ q ∈ lw_privs, lw_okq q := by
  show ∀ q ∈ lw_privs_1 ++ (lw_privs_2 ++ (lw_privs_3 ++ (lw_privs_4))), lw_okq q
  exact List.forall_mem_append.mpr ⟨lw_r1, List.forall_mem_append.mpr ⟨lw_r2, List.forall_mem_append.mpr ⟨lw_r3, lw_r4⟩⟩⟩
-- ===== ONE list of words for every method: the tables' words that hold all through a run =====
def lw_all : List Cond := lw_tbl.filter goodWord
/-- a word of the tables by its place: claim/WORDS.tsv -/
theorem lw_w {w : Cond} (i : Nat) (h : lw_tbl[i]? = some w) (g : goodWord w = true) : w ∈ lw_all := List.mem_filter.mpr ⟨List.mem_of_getElem? h, g⟩
theorem lw_all_tbl {w : Cond} (h : w ∈ lw_all) : w ∈ lw_tbl := (List.mem_filter.mp h).1
theorem lw_self : GoodIn lw_all lw_all := fun w h => ⟨h, good_of_word (List.mem_filter.mp h).2⟩
/-- a class's field words, by their places -/
theorem lw_in (ws : List Cond) (ps : List Nat) (hp : ws = ps.filterMap (fun i => lw_tbl[i]?)) (hg : ws.all goodWord = true) : ∀ w ∈ ws, w ∈ lw_all := by
  intro w h
  have h1 := List.all_eq_true.mp hg w h
  rw [hp] at h
  obtain ⟨i, -, hi⟩ := List.mem_filterMap.mp h
  exact lw_w i hi h1
/-- the words of a contract for the method y with code b, L locals, answer r -/
abbrev ws_ (y : MethodName) (b : ByteArray) (L : Nat) (r : Option FieldType) : List Cond := Cond.code y b L r :: lw_all
theorem lw_meth {y : MethodName} {b : ByteArray} {L : Nat} {r : Option FieldType} (h : Cond.code y b L r ∈ lw_all) : GoodIn lw_all (ws_ y b L r) := by
  intro w hw
  rcases List.mem_cons.mp hw with e | e
  · rw [e]
    exact lw_self _ h
  · exact lw_self _ e
theorem lw_app {a c : List Cond} (ha : ∀ w ∈ a, w ∈ lw_all) (hc : GoodIn lw_all c) : GoodIn lw_all (a ++ c) := by
  intro w hw
  rcases List.mem_append.mp hw with e | e
  · exact lw_self w (ha w e)
  · exact hc w e
/-- what a call through an object asks: cwV n hts (lw_V ..) -/
theorem lw_V {own : String} {idx : Nat} {C : String} {y : MethodName} {b : ByteArray} {L : Nat} {r : Option FieldType} (h1 : Cond.methodLink own idx y ∈ lw_all) (h2 : Cond.instanceMethod y ∈ lw_all) (h3 : Cond.selects C y y ∈ lw_all) (h4 : Cond.initialized C ∈ lw_all) (h5 : Cond.code y b L r ∈ lw_all) : GoodIn lw_all (wsV own idx C y (ws_ y b L r)) := by
  refine lw_app ?_ (lw_meth h5)
  intro w hw
  simp only [List.mem_cons, List.not_mem_nil, or_false] at hw
  rcases hw with e | e | e | e
  · rw [e]; exact h1
  · rw [e]; exact h2
  · rw [e]; exact h3
  · rw [e]; exact h4
/-- what a static call asks: va_cwS n hts (lw_S ..) -/
theorem lw_S {own : String} {idx : Nat} {y : MethodName} {b : ByteArray} {L : Nat} {r : Option FieldType} (h1 : Cond.methodLink own idx y ∈ lw_all) (h2 : Cond.static y ∈ lw_all) (h3 : Cond.initialized y.cls ∈ lw_all) (h4 : Cond.code y b L r ∈ lw_all) : GoodIn lw_all (va_wsS own idx y (ws_ y b L r)) := by
  refine lw_app ?_ (lw_meth h4)
  intro w hw
  simp only [List.mem_cons, List.not_mem_nil, or_false] at hw
  rcases hw with e | e | e
  · rw [e]; exact h1
  · rw [e]; exact h2
  · rw [e]; exact h3
/-- the words of a contract for a method WITH HANDLERS (hh: its table) -/
abbrev wsW_ (y : MethodName) (b : ByteArray) (L : Nat) (r : Option FieldType) (hh : List (Nat × Nat × Nat × Nat)) : List Cond := Cond.codeWith y b L r hh :: lw_all
theorem lw_methW {y : MethodName} {b : ByteArray} {L : Nat} {r : Option FieldType} {hh : List (Nat × Nat × Nat × Nat)} (h : Cond.codeWith y b L r hh ∈ lw_all) : GoodIn lw_all (wsW_ y b L r hh) := by
  intro w hw
  rcases List.mem_cons.mp hw with e | e
  · rw [e]
    exact lw_self _ h
  · exact lw_self _ e
/-- any list of words by their places (lw_in), good -/
theorem lw_good {ws : List Cond} (h : ∀ w ∈ ws, w ∈ lw_all) : GoodIn lw_all ws := fun w hw => lw_self w (h w hw)
/-- what a call of a method with handlers asks: vx_cwVW n hts (lw_VW ..), vx_cwSW n hts (lw_SW ..) -/
theorem lw_VW {own : String} {idx : Nat} {C : String} {y : MethodName} {b : ByteArray} {L : Nat} {r : Option FieldType} {hh : List (Nat × Nat × Nat × Nat)} (h1 : Cond.methodLink own idx y ∈ lw_all) (h2 : Cond.instanceMethod y ∈ lw_all) (h3 : Cond.selects C y y ∈ lw_all) (h4 : Cond.initialized C ∈ lw_all) (h5 : Cond.codeWith y b L r hh ∈ lw_all) : GoodIn lw_all (wsV own idx C y (wsW_ y b L r hh)) := by
  refine lw_app ?_ (lw_methW h5)
  intro w hw
  simp only [List.mem_cons, List.not_mem_nil, or_false] at hw
  rcases hw with e | e | e | e
  · rw [e]; exact h1
  · rw [e]; exact h2
  · rw [e]; exact h3
  · rw [e]; exact h4
theorem lw_SW {own : String} {idx : Nat} {y : MethodName} {b : ByteArray} {L : Nat} {r : Option FieldType} {hh : List (Nat × Nat × Nat × Nat)} (h1 : Cond.methodLink own idx y ∈ lw_all) (h2 : Cond.static y ∈ lw_all) (h3 : Cond.initialized y.cls ∈ lw_all) (h4 : Cond.codeWith y b L r hh ∈ lw_all) : GoodIn lw_all (va_wsS own idx y (wsW_ y b L r hh)) := by
  refine lw_app ?_ (lw_methW h4)
  intro w hw
  simp only [List.mem_cons, List.not_mem_nil, or_false] at hw
  rcases hw with e | e | e
  · rw [e]; exact h1
  · rw [e]; exact h2
  · rw [e]; exact h3
/-- a word by its place in its run of the tables -/
theorem lw_at {r : List Cond} (hr : ∀ w ∈ r, w ∈ lw_tbl) {w : Cond} (i : Nat) (h : r[i]? = some w) : w ∈ lw_tbl := hr w (List.mem_of_getElem? h)
theorem lw_g {w : Cond} (h : w ∈ lw_tbl) (g : goodWord w = true) : w ∈ lw_all := List.mem_filter.mpr ⟨h, g⟩
theorem lw_ms : ∀ w ∈ k2_sels lw_privs, w ∈ lw_tbl := fun w h => show w ∈ k2_sels lw_privs ++ tables_1 from List.mem_append_left _ h
theorem lw_m1 : ∀ w ∈ tables_1_1, w ∈ lw_tbl := fun w h => show w ∈ k2_sels lw_privs ++ tables_1 from List.mem_append_right (k2_sels lw_privs) (show w ∈ tables_1 from List.mem_append_left _ h)
theorem lw_m2 : ∀ w ∈ tables_1_2, w ∈ lw_tbl := fun w h => show w ∈ k2_sels lw_privs ++ tables_1 from List.mem_append_right (k2_sels lw_privs) (show w ∈ tables_1 from List.mem_append_right _ (List.mem_append_left _ h))
theorem lw_m3 : ∀ w ∈ tables_1_3, w ∈ lw_tbl := fun w h => show w ∈ k2_sels lw_privs ++ tables_1 from List.mem_append_right (k2_sels lw_privs) (show w ∈ tables_1 from List.mem_append_right _ (List.mem_append_right _ (List.mem_append_left _ h)))
theorem lw_m4 : ∀ w ∈ tables_1_4, w ∈ lw_tbl := fun w h => show w ∈ k2_sels lw_privs ++ tables_1 from List.mem_append_right (k2_sels lw_privs) (show w ∈ tables_1 from List.mem_append_right _ (List.mem_append_right _ (List.mem_append_right _ (List.mem_append_left _ h))))
theorem lw_m5 : ∀ w ∈ tables_1_5, w ∈ lw_tbl := fun w h => show w ∈ k2_sels lw_privs ++ tables_1 from List.mem_append_right (k2_sels lw_privs) (show w ∈ tables_1 from List.mem_append_right _ (List.mem_append_right _ (List.mem_append_right _ (List.mem_append_right _ (List.mem_append_left _ h)))))
theorem lw_m6 : ∀ w ∈ tables_1_6, w ∈ lw_tbl := fun w h => show w ∈ k2_sels lw_privs ++ tables_1 from List.mem_append_right (k2_sels lw_privs) (show w ∈ tables_1 from List.mem_append_right _ (List.mem_append_right _ (List.mem_append_right _ (List.mem_append_right _ (List.mem_append_right _ h)))))
theorem qs0 : (Cond.selects "LoseLeague$Reader" ⟨"LoseLeague$Reader", "next", "()V"⟩ ⟨"LoseLeague$Reader", "next", "()V"⟩) ∈ lw_all := lw_g (lw_at lw_ms 0 rfl) rfl
theorem qs1 : (Cond.selects "LoseLeague$Reader" ⟨"LoseLeague$Reader", "isIn", "(CC)Z"⟩ ⟨"LoseLeague$Reader", "isIn", "(CC)Z"⟩) ∈ lw_all := lw_g (lw_at lw_ms 1 rfl) rfl
theorem qs2 : (Cond.selects "LoseLeague$Reader" ⟨"LoseLeague$Reader", "need", "(ZI)V"⟩ ⟨"LoseLeague$Reader", "need", "(ZI)V"⟩) ∈ lw_all := lw_g (lw_at lw_ms 2 rfl) rfl
theorem qs3 : (Cond.selects "java/lang/NullPointerException" ⟨"java/lang/NullPointerException", "getExtendedNPEMessage", "()Ljava/lang/String;"⟩ ⟨"java/lang/NullPointerException", "getExtendedNPEMessage", "()Ljava/lang/String;"⟩) ∈ lw_all := lw_g (lw_at lw_ms 3 rfl) rfl
theorem qs4 : (Cond.selects "java/lang/Throwable" ⟨"java/lang/Throwable", "fillInStackTrace", "(I)Ljava/lang/Throwable;"⟩ ⟨"java/lang/Throwable", "fillInStackTrace", "(I)Ljava/lang/Throwable;"⟩) ∈ lw_all := lw_g (lw_at lw_ms 4 rfl) rfl
theorem qs5 : (Cond.selects "LoseLeague$Reader" ⟨"LoseLeague$Reader", "line", "()V"⟩ ⟨"LoseLeague$Reader", "line", "()V"⟩) ∈ lw_all := lw_g (lw_at lw_ms 5 rfl) rfl
theorem qs6 : (Cond.selects "LoseLeague$Reader" ⟨"LoseLeague$Reader", "is", "(I)Z"⟩ ⟨"LoseLeague$Reader", "is", "(I)Z"⟩) ∈ lw_all := lw_g (lw_at lw_ms 6 rfl) rfl
theorem qs7 : (Cond.selects "LoseLeague$Reader" ⟨"LoseLeague$Reader", "name", "(I)Ljava/lang/String;"⟩ ⟨"LoseLeague$Reader", "name", "(I)Ljava/lang/String;"⟩) ∈ lw_all := lw_g (lw_at lw_ms 7 rfl) rfl
theorem qs8 : (Cond.selects "LoseLeague$Reader" ⟨"LoseLeague$Reader", "game", "()V"⟩ ⟨"LoseLeague$Reader", "game", "()V"⟩) ∈ lw_all := lw_g (lw_at lw_ms 8 rfl) rfl
theorem qs9 : (Cond.selects "LoseLeague$Reader" ⟨"LoseLeague$Reader", "looked", "(I)I"⟩ ⟨"LoseLeague$Reader", "looked", "(I)I"⟩) ∈ lw_all := lw_g (lw_at lw_ms 9 rfl) rfl
theorem qs10 : (Cond.selects "LoseLeague" ⟨"LoseLeague", "isTown", "(I)Z"⟩ ⟨"LoseLeague", "isTown", "(I)Z"⟩) ∈ lw_all := lw_g (lw_at lw_ms 10 rfl) rfl
theorem qs11 : (Cond.selects "LoseLeague" ⟨"LoseLeague", "plays", "(LLoseLeague$League;I)I"⟩ ⟨"LoseLeague", "plays", "(LLoseLeague$League;I)I"⟩) ∈ lw_all := lw_g (lw_at lw_ms 11 rfl) rfl
theorem qs12 : (Cond.selects "LoseLeague" ⟨"LoseLeague", "areTwo", "(II)Z"⟩ ⟨"LoseLeague", "areTwo", "(II)Z"⟩) ∈ lw_all := lw_g (lw_at lw_ms 12 rfl) rfl
theorem qs13 : (Cond.selects "LoseLeague" ⟨"LoseLeague", "loserOf", "(LLoseLeague$League;II)I"⟩ ⟨"LoseLeague", "loserOf", "(LLoseLeague$League;II)I"⟩) ∈ lw_all := lw_g (lw_at lw_ms 13 rfl) rfl
theorem qs14 : (Cond.selects "LoseLeague" ⟨"LoseLeague", "whyNot", "(III)I"⟩ ⟨"LoseLeague", "whyNot", "(III)I"⟩) ∈ lw_all := lw_g (lw_at lw_ms 14 rfl) rfl
theorem qs15 : (Cond.selects "LoseLeague" ⟨"LoseLeague", "weeksGo", "(LLoseLeague$League;I)V"⟩ ⟨"LoseLeague", "weeksGo", "(LLoseLeague$League;I)V"⟩) ∈ lw_all := lw_g (lw_at lw_ms 15 rfl) rfl
theorem qs16 : (Cond.selects "LoseLeague" ⟨"LoseLeague", "startsCounting", "()V"⟩ ⟨"LoseLeague", "startsCounting", "()V"⟩) ∈ lw_all := lw_g (lw_at lw_ms 16 rfl) rfl
theorem qs17 : (Cond.selects "LoseLeague" ⟨"LoseLeague", "weekGoes", "(LLoseLeague$League;Z)V"⟩ ⟨"LoseLeague", "weekGoes", "(LLoseLeague$League;Z)V"⟩) ∈ lw_all := lw_g (lw_at lw_ms 17 rfl) rfl
theorem qs18 : (Cond.selects "LoseLeague" ⟨"LoseLeague", "isPlayed", "(LLoseLeague$League;II)V"⟩ ⟨"LoseLeague", "isPlayed", "(LLoseLeague$League;II)V"⟩) ∈ lw_all := lw_g (lw_at lw_ms 18 rfl) rfl
theorem qs19 : (Cond.selects "LoseLeague" ⟨"LoseLeague", "weekEnds", "(LLoseLeague$League;)V"⟩ ⟨"LoseLeague", "weekEnds", "(LLoseLeague$League;)V"⟩) ∈ lw_all := lw_g (lw_at lw_ms 19 rfl) rfl
theorem qs20 : (Cond.selects "LoseLeague" ⟨"LoseLeague", "findOrder", "()V"⟩ ⟨"LoseLeague", "findOrder", "()V"⟩) ∈ lw_all := lw_g (lw_at lw_ms 20 rfl) rfl
theorem qs21 : (Cond.selects "LoseLeague" ⟨"LoseLeague", "startsJudging", "(I)V"⟩ ⟨"LoseLeague", "startsJudging", "(I)V"⟩) ∈ lw_all := lw_g (lw_at lw_ms 21 rfl) rfl
theorem qs22 : (Cond.selects "LoseLeague" ⟨"LoseLeague", "owedByTried", "(I)I"⟩ ⟨"LoseLeague", "owedByTried", "(I)I"⟩) ∈ lw_all := lw_g (lw_at lw_ms 22 rfl) rfl
theorem qs23 : (Cond.selects "LoseLeague" ⟨"LoseLeague", "judges", "(II)V"⟩ ⟨"LoseLeague", "judges", "(II)V"⟩) ∈ lw_all := lw_g (lw_at lw_ms 23 rfl) rfl
theorem qs24 : (Cond.selects "LoseLeague" ⟨"LoseLeague", "goesOn", "(I)Z"⟩ ⟨"LoseLeague", "goesOn", "(I)Z"⟩) ∈ lw_all := lw_g (lw_at lw_ms 24 rfl) rfl
theorem qs25 : (Cond.selects "LoseLeague" ⟨"LoseLeague", "trades", "(II)V"⟩ ⟨"LoseLeague", "trades", "(II)V"⟩) ∈ lw_all := lw_g (lw_at lw_ms 25 rfl) rfl
theorem qs26 : (Cond.selects "LoseLeague" ⟨"LoseLeague", "startsByNow", "(I)V"⟩ ⟨"LoseLeague", "startsByNow", "(I)V"⟩) ∈ lw_all := lw_g (lw_at lw_ms 26 rfl) rfl
theorem qs27 : (Cond.selects "LoseLeague" ⟨"LoseLeague", "judged", "(I)I"⟩ ⟨"LoseLeague", "judged", "(I)I"⟩) ∈ lw_all := lw_g (lw_at lw_ms 27 rfl) rfl
theorem qs28 : (Cond.selects "LoseLeague" ⟨"LoseLeague", "findOdds", "(III)V"⟩ ⟨"LoseLeague", "findOdds", "(III)V"⟩) ∈ lw_all := lw_g (lw_at lw_ms 28 rfl) rfl
theorem qs29 : (Cond.selects "LoseLeague" ⟨"LoseLeague", "which", "(III)I"⟩ ⟨"LoseLeague", "which", "(III)I"⟩) ∈ lw_all := lw_g (lw_at lw_ms 29 rfl) rfl
theorem qs30 : (Cond.selects "LoseLeague" ⟨"LoseLeague", "isSo", "(III)Z"⟩ ⟨"LoseLeague", "isSo", "(III)Z"⟩) ∈ lw_all := lw_g (lw_at lw_ms 30 rfl) rfl
theorem qs31 : (Cond.selects "LoseLeague" ⟨"LoseLeague", "findStrengths", "(I)I"⟩ ⟨"LoseLeague", "findStrengths", "(I)I"⟩) ∈ lw_all := lw_g (lw_at lw_ms 31 rfl) rfl
theorem qs32 : (Cond.selects "LoseLeague" ⟨"LoseLeague", "worstAt", "(II)I"⟩ ⟨"LoseLeague", "worstAt", "(II)I"⟩) ∈ lw_all := lw_g (lw_at lw_ms 32 rfl) rfl
theorem qs33 : (Cond.selects "LoseLeague" ⟨"LoseLeague", "takenOf", "(III)I"⟩ ⟨"LoseLeague", "takenOf", "(III)I"⟩) ∈ lw_all := lw_g (lw_at lw_ms 33 rfl) rfl
theorem qs34 : (Cond.selects "LoseLeagueModel" ⟨"LoseLeagueModel", "step", "()V"⟩ ⟨"LoseLeagueModel", "step", "()V"⟩) ∈ lw_all := lw_g (lw_at lw_ms 34 rfl) rfl
theorem qs35 : (Cond.selects "LoseLeagueModel" ⟨"LoseLeagueModel", "byteAt", "(I)I"⟩ ⟨"LoseLeagueModel", "byteAt", "(I)I"⟩) ∈ lw_all := lw_g (lw_at lw_ms 35 rfl) rfl
theorem qs36 : (Cond.selects "LoseLeagueModel" ⟨"LoseLeagueModel", "fails", "(I)V"⟩ ⟨"LoseLeagueModel", "fails", "(I)V"⟩) ∈ lw_all := lw_g (lw_at lw_ms 36 rfl) rfl
theorem qs37 : (Cond.selects "LoseLeagueModel" ⟨"LoseLeagueModel", "readLine", "()V"⟩ ⟨"LoseLeagueModel", "readLine", "()V"⟩) ∈ lw_all := lw_g (lw_at lw_ms 37 rfl) rfl
theorem qs38 : (Cond.selects "LoseLeagueModel" ⟨"LoseLeagueModel", "nameHere", "()I"⟩ ⟨"LoseLeagueModel", "nameHere", "()I"⟩) ∈ lw_all := lw_g (lw_at lw_ms 38 rfl) rfl
theorem qs39 : (Cond.selects "LoseLeagueModel" ⟨"LoseLeagueModel", "readMore", "(I)V"⟩ ⟨"LoseLeagueModel", "readMore", "(I)V"⟩) ∈ lw_all := lw_g (lw_at lw_ms 39 rfl) rfl
theorem qs40 : (Cond.selects "LoseLeagueModel" ⟨"LoseLeagueModel", "number", "(II)I"⟩ ⟨"LoseLeagueModel", "number", "(II)I"⟩) ∈ lw_all := lw_g (lw_at lw_ms 40 rfl) rfl
theorem qs41 : (Cond.selects "LoseLeagueModel" ⟨"LoseLeagueModel", "townHere", "()I"⟩ ⟨"LoseLeagueModel", "townHere", "()I"⟩) ∈ lw_all := lw_g (lw_at lw_ms 41 rfl) rfl
theorem qs42 : (Cond.selects "LoseLeagueModel" ⟨"LoseLeagueModel", "placeOn", "(I)I"⟩ ⟨"LoseLeagueModel", "placeOn", "(I)I"⟩) ∈ lw_all := lw_g (lw_at lw_ms 42 rfl) rfl
theorem qs43 : (Cond.selects "LoseLeagueModel" ⟨"LoseLeagueModel", "losersOn", "(I)I"⟩ ⟨"LoseLeagueModel", "losersOn", "(I)I"⟩) ∈ lw_all := lw_g (lw_at lw_ms 43 rfl) rfl
theorem qs44 : (Cond.selects "LoseLeagueModel" ⟨"LoseLeagueModel", "owedOn", "(I)I"⟩ ⟨"LoseLeagueModel", "owedOn", "(I)I"⟩) ∈ lw_all := lw_g (lw_at lw_ms 44 rfl) rfl
theorem qs45 : (Cond.selects "LoseLeagueModel" ⟨"LoseLeagueModel", "isTown", "(I)Z"⟩ ⟨"LoseLeagueModel", "isTown", "(I)Z"⟩) ∈ lw_all := lw_g (lw_at lw_ms 45 rfl) rfl
theorem qs46 : (Cond.selects "LoseLeagueModel" ⟨"LoseLeagueModel", "playsOn", "(II)I"⟩ ⟨"LoseLeagueModel", "playsOn", "(II)I"⟩) ∈ lw_all := lw_g (lw_at lw_ms 46 rfl) rfl
theorem qs47 : (Cond.selects "LoseLeagueModel" ⟨"LoseLeagueModel", "isFixture", "(I)Z"⟩ ⟨"LoseLeagueModel", "isFixture", "(I)Z"⟩) ∈ lw_all := lw_g (lw_at lw_ms 47 rfl) rfl
theorem qs48 : (Cond.selects "LoseLeagueModel" ⟨"LoseLeagueModel", "isPair", "(II)Z"⟩ ⟨"LoseLeagueModel", "isPair", "(II)Z"⟩) ∈ lw_all := lw_g (lw_at lw_ms 48 rfl) rfl
theorem qs49 : (Cond.selects "LoseLeagueModel" ⟨"LoseLeagueModel", "gameOn", "(III)I"⟩ ⟨"LoseLeagueModel", "gameOn", "(III)I"⟩) ∈ lw_all := lw_g (lw_at lw_ms 49 rfl) rfl
theorem qs50 : (Cond.selects "LoseLeagueModel" ⟨"LoseLeagueModel", "puts", "(ZII)I"⟩ ⟨"LoseLeagueModel", "puts", "(ZII)I"⟩) ∈ lw_all := lw_g (lw_at lw_ms 50 rfl) rfl
theorem qs51 : (Cond.selects "LoseLeagueModel" ⟨"LoseLeagueModel", "lendsOn", "(IIII)I"⟩ ⟨"LoseLeagueModel", "lendsOn", "(IIII)I"⟩) ∈ lw_all := lw_g (lw_at lw_ms 51 rfl) rfl
theorem qs52 : (Cond.selects "LoseLeagueModel" ⟨"LoseLeagueModel", "books", "(II)I"⟩ ⟨"LoseLeagueModel", "books", "(II)I"⟩) ∈ lw_all := lw_g (lw_at lw_ms 52 rfl) rfl
theorem qs53 : (Cond.selects "LoseLeagueModel" ⟨"LoseLeagueModel", "weekOn", "(IZ)V"⟩ ⟨"LoseLeagueModel", "weekOn", "(IZ)V"⟩) ∈ lw_all := lw_g (lw_at lw_ms 53 rfl) rfl
theorem qs54 : (Cond.selects "LoseLeagueModel" ⟨"LoseLeagueModel", "playedOn", "(III)V"⟩ ⟨"LoseLeagueModel", "playedOn", "(III)V"⟩) ∈ lw_all := lw_g (lw_at lw_ms 54 rfl) rfl
theorem qs55 : (Cond.selects "LoseLeagueModel" ⟨"LoseLeagueModel", "yearsEnd", "(I)V"⟩ ⟨"LoseLeagueModel", "yearsEnd", "(I)V"⟩) ∈ lw_all := lw_g (lw_at lw_ms 55 rfl) rfl
theorem qs56 : (Cond.selects "LoseLeagueModel" ⟨"LoseLeagueModel", "weeksGo", "(II)I"⟩ ⟨"LoseLeagueModel", "weeksGo", "(II)I"⟩) ∈ lw_all := lw_g (lw_at lw_ms 56 rfl) rfl
theorem qs57 : (Cond.selects "LoseLeagueModel" ⟨"LoseLeagueModel", "copies", "(II)V"⟩ ⟨"LoseLeagueModel", "copies", "(II)V"⟩) ∈ lw_all := lw_g (lw_at lw_ms 57 rfl) rfl
theorem qs58 : (Cond.selects "LoseLeagueModel" ⟨"LoseLeagueModel", "firstLoss", "(III)I"⟩ ⟨"LoseLeagueModel", "firstLoss", "(III)I"⟩) ∈ lw_all := lw_g (lw_at lw_ms 58 rfl) rfl
theorem qs59 : (Cond.selects "LoseLeagueModel" ⟨"LoseLeagueModel", "ordered", "(I)Z"⟩ ⟨"LoseLeagueModel", "ordered", "(I)Z"⟩) ∈ lw_all := lw_g (lw_at lw_ms 59 rfl) rfl
theorem qs60 : (Cond.selects "LoseLeagueModel" ⟨"LoseLeagueModel", "byRain", "(IIII)J"⟩ ⟨"LoseLeagueModel", "byRain", "(IIII)J"⟩) ∈ lw_all := lw_g (lw_at lw_ms 60 rfl) rfl
theorem qs61 : (Cond.selects "LoseLeagueModel" ⟨"LoseLeagueModel", "numbersAt", "(II)I"⟩ ⟨"LoseLeagueModel", "numbersAt", "(II)I"⟩) ∈ lw_all := lw_g (lw_at lw_ms 61 rfl) rfl
theorem qs62 : (Cond.selects "LoseLeagueModel" ⟨"LoseLeagueModel", "isAsSeen", "(I)Z"⟩ ⟨"LoseLeagueModel", "isAsSeen", "(I)Z"⟩) ∈ lw_all := lw_g (lw_at lw_ms 62 rfl) rfl
