/-! LoseLeague -/
set_option maxRecDepth 100000
def RX0 : String := "LoseLeague"
def TX0 : u_T := fun k => match k with
  | 0 => ("LoseLeague", "kinds", "[LLoseLeague$Plain;", true)
  | 1 => ("LoseLeague", "now", "LLoseLeague$League;", true)
  | 2 => ("LoseLeague", "tried", "LLoseLeague$League;", true)
  | 3 => ("LoseLeague", "images", "[LLoseLeague$League;", true)
  | 4 => ("LoseLeague", "kept", "I", false)
  | 5 => ("LoseLeague", "seen", "[B", true)
  | 6 => ("LoseLeague", "seenMany", "I", false)
  | 7 => ("LoseLeague", "lost", "I", false)
  | 8 => ("LoseLeague", "draws", "I", false)
  | 9 => ("LoseLeague", "losers", "I", false)
  | 10 => ("LoseLeague", "latest", "I", false)
  | 11 => ("LoseLeague", "tape", "[B", true)
  | 12 => ("LoseLeague", "taped", "I", false)
  | 13 => ("LoseLeague", "fault", "I", false)
  | 14 => ("LoseLeague", "found", "I", false)
  | 15 => ("LoseLeague", "foundMuch", "I", false)
  | 16 => ("LoseLeague", "row", "[I", true)
  | 17 => ("LoseLeague", "bestRow", "[I", true)
  | 18 => ("LoseLeague", "loseSum", "J", false)
  | 19 => ("LoseLeague", "owedSum", "J", false)
  | 20 => ("LoseLeague", "allWays", "J", false)
  | 21 => ("LoseLeague", "losersBy", "[B", true)
  | 22 => ("LoseLeague", "byStrength", "[B", true)
  | 23 => ("LoseLeague", "sheets", "[LLoseLeague$Sheet;", true)
  | _ => ("LoseLeague", "torn", "I", false)
def tyX0 : Nat → FieldType := fun k => match k with
  | 0 => .array (.object "LoseLeague$Plain")
  | 1 => .object "LoseLeague$League"
  | 2 => .object "LoseLeague$League"
  | 3 => .array (.object "LoseLeague$League")
  | 4 => .int
  | 5 => .array .byte
  | 6 => .int
  | 7 => .int
  | 8 => .int
  | 9 => .int
  | 10 => .int
  | 11 => .array .byte
  | 12 => .int
  | 13 => .int
  | 14 => .int
  | 15 => .int
  | 16 => .array .int
  | 17 => .array .int
  | 18 => .long
  | 19 => .long
  | 20 => .long
  | 21 => .array .byte
  | 22 => .array .byte
  | 23 => .array (.object "LoseLeague$Sheet")
  | _ => .int
abbrev wsX00 : List Cond := u_ws RX0 TX0 25
set_option maxRecDepth 100000 in
theorem nmX0 : ∀ a, a < 25 → ∀ b, b < 25 → a ≠ b → (TX0 a).2.1 ≠ (TX0 b).2.1 := by decide +kernel
set_option maxRecDepth 100000 in
theorem tyX0_ok : ∀ k, k < 25 → parseFieldDescriptor (TX0 k).2.2.1 = some (tyX0 k) := by decide +kernel
abbrev cX0_init : ByteArray := prog_1_method_11_code
def yX0_init : MethodName := ⟨RX0, "<init>", "()V"⟩
def dkwX0_init_7 : List UInt8 := [180, 0, 137, 27, 187, 0, 135, 89, 183, 0, 141, 83, 132, 1, 1, 167, 255, 235, 177]
abbrev dktX0_init_7 : List UInt8 := dkwX0_init_7 ++ []
def dkwX0_init_6 : List UInt8 := [17, 1, 185, 188, 8, 181, 0, 132, 42, 7, 189, 0, 135, 181, 0, 137, 3, 60, 27, 7, 162, 0, 22, 42]
abbrev dktX0_init_6 : List UInt8 := dkwX0_init_6 ++ dktX0_init_7
def dkwX0_init_5 : List UInt8 := [42, 8, 188, 10, 181, 0, 122, 42, 8, 188, 10, 181, 0, 126, 42, 16, 21, 188, 8, 181, 0, 129, 42]
abbrev dktX0_init_5 : List UInt8 := dkwX0_init_5 ++ dktX0_init_6
def dkwX0_init_4 : List UInt8 := [183, 0, 108, 83, 181, 0, 112, 42, 16, 12, 188, 8, 181, 0, 116, 42, 17, 0, 160, 188, 8, 181, 0, 119]
abbrev dktX0_init_4 : List UInt8 := dkwX0_init_4 ++ dktX0_init_5
def dkwX0_init_3 : List UInt8 := [181, 0, 81, 42, 5, 189, 0, 8, 89, 3, 187, 0, 8, 89, 183, 0, 108, 83, 89, 4, 187, 0, 8, 89]
abbrev dktX0_init_3 : List UInt8 := dkwX0_init_3 ++ dktX0_init_4
def dkwX0_init_2 : List UInt8 := [83, 181, 0, 1, 42, 187, 0, 8, 89, 183, 0, 108, 181, 0, 109, 42, 187, 0, 8, 89, 183, 0, 108]
abbrev dktX0_init_2 : List UInt8 := dkwX0_init_2 ++ dktX0_init_3
def dkwX0_init_1 : List UInt8 := [89, 183, 0, 101, 83, 89, 5, 187, 0, 102, 89, 183, 0, 104, 83, 89, 6, 187, 0, 105, 89, 183, 0, 107]
abbrev dktX0_init_1 : List UInt8 := dkwX0_init_1 ++ dktX0_init_2
def dkwX0_init_0 : List UInt8 := [42, 183, 0, 93, 42, 7, 189, 0, 14, 89, 3, 187, 0, 14, 89, 183, 0, 98, 83, 89, 4, 187, 0, 99]
abbrev dktX0_init_0 : List UInt8 := dkwX0_init_0 ++ dktX0_init_1
theorem dksX0_init_0 : cX0_init.data.toList.drop 0 = dktX0_init_0 := by decide +kernel
theorem dksX0_init_1 : cX0_init.data.toList.drop 24 = dktX0_init_1 := dk_seg dksX0_init_0 24 rfl rfl
theorem dksX0_init_2 : cX0_init.data.toList.drop 48 = dktX0_init_2 := dk_seg dksX0_init_1 24 rfl rfl
theorem dksX0_init_3 : cX0_init.data.toList.drop 71 = dktX0_init_3 := dk_seg dksX0_init_2 23 rfl rfl
theorem dksX0_init_4 : cX0_init.data.toList.drop 95 = dktX0_init_4 := dk_seg dksX0_init_3 24 rfl rfl
theorem dksX0_init_5 : cX0_init.data.toList.drop 119 = dktX0_init_5 := dk_seg dksX0_init_4 24 rfl rfl
theorem dksX0_init_6 : cX0_init.data.toList.drop 142 = dktX0_init_6 := dk_seg dksX0_init_5 23 rfl rfl
theorem dksX0_init_7 : cX0_init.data.toList.drop 166 = dktX0_init_7 := dk_seg dksX0_init_6 24 rfl rfl
theorem dX0_init_0 : decode cX0_init 0 = .ok (.aload_n 0, 1) := dk_42 (dk_at dksX0_init_0 0 rfl rfl)
theorem dX0_init_1 : decode cX0_init 1 = .ok (.invokespecial 93, 3) := dk_183 0 93 (dk_at dksX0_init_0 1 rfl rfl)
theorem dX0_init_4 : decode cX0_init 4 = .ok (.aload_n 0, 1) := dk_42 (dk_at dksX0_init_0 4 rfl rfl)
theorem dX0_init_5 : decode cX0_init 5 = .ok (.iconst 4, 1) := dk_7 (dk_at dksX0_init_0 5 rfl rfl)
theorem dX0_init_6 : decode cX0_init 6 = .ok (.anewarray 14, 3) := dk_189 0 14 (dk_at dksX0_init_0 6 rfl rfl)
theorem dX0_init_9 : decode cX0_init 9 = .ok (.dup, 1) := dk_89 (dk_at dksX0_init_0 9 rfl rfl)
theorem dX0_init_10 : decode cX0_init 10 = .ok (.iconst 0, 1) := dk_3 (dk_at dksX0_init_0 10 rfl rfl)
theorem dX0_init_11 : decode cX0_init 11 = .ok (.new 14, 3) := dk_187 0 14 (dk_at dksX0_init_0 11 rfl rfl)
theorem dX0_init_14 : decode cX0_init 14 = .ok (.dup, 1) := dk_89 (dk_at dksX0_init_0 14 rfl rfl)
theorem dX0_init_15 : decode cX0_init 15 = .ok (.invokespecial 98, 3) := dk_183 0 98 (dk_at dksX0_init_0 15 rfl rfl)
theorem dX0_init_18 : decode cX0_init 18 = .ok (.aastore, 1) := dk_83 (dk_at dksX0_init_0 18 rfl rfl)
theorem dX0_init_19 : decode cX0_init 19 = .ok (.dup, 1) := dk_89 (dk_at dksX0_init_0 19 rfl rfl)
theorem dX0_init_20 : decode cX0_init 20 = .ok (.iconst 1, 1) := dk_4 (dk_at dksX0_init_0 20 rfl rfl)
theorem dX0_init_21 : decode cX0_init 21 = .ok (.new 99, 3) := dk_187 0 99 (dk_at dksX0_init_0 21 rfl rfl)
theorem dX0_init_24 : decode cX0_init 24 = .ok (.dup, 1) := dk_89 (dk_at dksX0_init_1 0 rfl rfl)
theorem dX0_init_25 : decode cX0_init 25 = .ok (.invokespecial 101, 3) := dk_183 0 101 (dk_at dksX0_init_1 1 rfl rfl)
theorem dX0_init_28 : decode cX0_init 28 = .ok (.aastore, 1) := dk_83 (dk_at dksX0_init_1 4 rfl rfl)
theorem dX0_init_29 : decode cX0_init 29 = .ok (.dup, 1) := dk_89 (dk_at dksX0_init_1 5 rfl rfl)
theorem dX0_init_30 : decode cX0_init 30 = .ok (.iconst 2, 1) := dk_5 (dk_at dksX0_init_1 6 rfl rfl)
theorem dX0_init_31 : decode cX0_init 31 = .ok (.new 102, 3) := dk_187 0 102 (dk_at dksX0_init_1 7 rfl rfl)
theorem dX0_init_34 : decode cX0_init 34 = .ok (.dup, 1) := dk_89 (dk_at dksX0_init_1 10 rfl rfl)
theorem dX0_init_35 : decode cX0_init 35 = .ok (.invokespecial 104, 3) := dk_183 0 104 (dk_at dksX0_init_1 11 rfl rfl)
theorem dX0_init_38 : decode cX0_init 38 = .ok (.aastore, 1) := dk_83 (dk_at dksX0_init_1 14 rfl rfl)
theorem dX0_init_39 : decode cX0_init 39 = .ok (.dup, 1) := dk_89 (dk_at dksX0_init_1 15 rfl rfl)
theorem dX0_init_40 : decode cX0_init 40 = .ok (.iconst 3, 1) := dk_6 (dk_at dksX0_init_1 16 rfl rfl)
theorem dX0_init_41 : decode cX0_init 41 = .ok (.new 105, 3) := dk_187 0 105 (dk_at dksX0_init_1 17 rfl rfl)
theorem dX0_init_44 : decode cX0_init 44 = .ok (.dup, 1) := dk_89 (dk_at dksX0_init_1 20 rfl rfl)
theorem dX0_init_45 : decode cX0_init 45 = .ok (.invokespecial 107, 3) := dk_183 0 107 (dk_at dksX0_init_1 21 rfl rfl)
theorem dX0_init_48 : decode cX0_init 48 = .ok (.aastore, 1) := dk_83 (dk_at dksX0_init_2 0 rfl rfl)
theorem dX0_init_49 : decode cX0_init 49 = .ok (.putfield 1, 3) := dk_181 0 1 (dk_at dksX0_init_2 1 rfl rfl)
theorem dX0_init_52 : decode cX0_init 52 = .ok (.aload_n 0, 1) := dk_42 (dk_at dksX0_init_2 4 rfl rfl)
theorem dX0_init_53 : decode cX0_init 53 = .ok (.new 8, 3) := dk_187 0 8 (dk_at dksX0_init_2 5 rfl rfl)
theorem dX0_init_56 : decode cX0_init 56 = .ok (.dup, 1) := dk_89 (dk_at dksX0_init_2 8 rfl rfl)
theorem dX0_init_57 : decode cX0_init 57 = .ok (.invokespecial 108, 3) := dk_183 0 108 (dk_at dksX0_init_2 9 rfl rfl)
theorem dX0_init_60 : decode cX0_init 60 = .ok (.putfield 109, 3) := dk_181 0 109 (dk_at dksX0_init_2 12 rfl rfl)
theorem dX0_init_63 : decode cX0_init 63 = .ok (.aload_n 0, 1) := dk_42 (dk_at dksX0_init_2 15 rfl rfl)
theorem dX0_init_64 : decode cX0_init 64 = .ok (.new 8, 3) := dk_187 0 8 (dk_at dksX0_init_2 16 rfl rfl)
theorem dX0_init_67 : decode cX0_init 67 = .ok (.dup, 1) := dk_89 (dk_at dksX0_init_2 19 rfl rfl)
theorem dX0_init_68 : decode cX0_init 68 = .ok (.invokespecial 108, 3) := dk_183 0 108 (dk_at dksX0_init_2 20 rfl rfl)
theorem dX0_init_71 : decode cX0_init 71 = .ok (.putfield 81, 3) := dk_181 0 81 (dk_at dksX0_init_3 0 rfl rfl)
theorem dX0_init_74 : decode cX0_init 74 = .ok (.aload_n 0, 1) := dk_42 (dk_at dksX0_init_3 3 rfl rfl)
theorem dX0_init_75 : decode cX0_init 75 = .ok (.iconst 2, 1) := dk_5 (dk_at dksX0_init_3 4 rfl rfl)
theorem dX0_init_76 : decode cX0_init 76 = .ok (.anewarray 8, 3) := dk_189 0 8 (dk_at dksX0_init_3 5 rfl rfl)
theorem dX0_init_79 : decode cX0_init 79 = .ok (.dup, 1) := dk_89 (dk_at dksX0_init_3 8 rfl rfl)
theorem dX0_init_80 : decode cX0_init 80 = .ok (.iconst 0, 1) := dk_3 (dk_at dksX0_init_3 9 rfl rfl)
theorem dX0_init_81 : decode cX0_init 81 = .ok (.new 8, 3) := dk_187 0 8 (dk_at dksX0_init_3 10 rfl rfl)
theorem dX0_init_84 : decode cX0_init 84 = .ok (.dup, 1) := dk_89 (dk_at dksX0_init_3 13 rfl rfl)
theorem dX0_init_85 : decode cX0_init 85 = .ok (.invokespecial 108, 3) := dk_183 0 108 (dk_at dksX0_init_3 14 rfl rfl)
theorem dX0_init_88 : decode cX0_init 88 = .ok (.aastore, 1) := dk_83 (dk_at dksX0_init_3 17 rfl rfl)
theorem dX0_init_89 : decode cX0_init 89 = .ok (.dup, 1) := dk_89 (dk_at dksX0_init_3 18 rfl rfl)
theorem dX0_init_90 : decode cX0_init 90 = .ok (.iconst 1, 1) := dk_4 (dk_at dksX0_init_3 19 rfl rfl)
theorem dX0_init_91 : decode cX0_init 91 = .ok (.new 8, 3) := dk_187 0 8 (dk_at dksX0_init_3 20 rfl rfl)
theorem dX0_init_94 : decode cX0_init 94 = .ok (.dup, 1) := dk_89 (dk_at dksX0_init_3 23 rfl rfl)
theorem dX0_init_95 : decode cX0_init 95 = .ok (.invokespecial 108, 3) := dk_183 0 108 (dk_at dksX0_init_4 0 rfl rfl)
theorem dX0_init_98 : decode cX0_init 98 = .ok (.aastore, 1) := dk_83 (dk_at dksX0_init_4 3 rfl rfl)
theorem dX0_init_99 : decode cX0_init 99 = .ok (.putfield 112, 3) := dk_181 0 112 (dk_at dksX0_init_4 4 rfl rfl)
theorem dX0_init_102 : decode cX0_init 102 = .ok (.aload_n 0, 1) := dk_42 (dk_at dksX0_init_4 7 rfl rfl)
theorem dX0_init_103 : decode cX0_init 103 = .ok (.bipush 12, 2) := dk_16 12 (dk_at dksX0_init_4 8 rfl rfl)
theorem dX0_init_105 : decode cX0_init 105 = .ok (.newarray .byte, 2) := dk_188_8 (dk_at dksX0_init_4 10 rfl rfl)
theorem dX0_init_107 : decode cX0_init 107 = .ok (.putfield 116, 3) := dk_181 0 116 (dk_at dksX0_init_4 12 rfl rfl)
theorem dX0_init_110 : decode cX0_init 110 = .ok (.aload_n 0, 1) := dk_42 (dk_at dksX0_init_4 15 rfl rfl)
theorem dX0_init_111 : decode cX0_init 111 = .ok (.sipush 160, 3) := dk_17 0 160 (dk_at dksX0_init_4 16 rfl rfl)
theorem dX0_init_114 : decode cX0_init 114 = .ok (.newarray .byte, 2) := dk_188_8 (dk_at dksX0_init_4 19 rfl rfl)
theorem dX0_init_116 : decode cX0_init 116 = .ok (.putfield 119, 3) := dk_181 0 119 (dk_at dksX0_init_4 21 rfl rfl)
theorem dX0_init_119 : decode cX0_init 119 = .ok (.aload_n 0, 1) := dk_42 (dk_at dksX0_init_5 0 rfl rfl)
theorem dX0_init_120 : decode cX0_init 120 = .ok (.iconst 5, 1) := dk_8 (dk_at dksX0_init_5 1 rfl rfl)
theorem dX0_init_121 : decode cX0_init 121 = .ok (.newarray .int, 2) := dk_188_10 (dk_at dksX0_init_5 2 rfl rfl)
theorem dX0_init_123 : decode cX0_init 123 = .ok (.putfield 122, 3) := dk_181 0 122 (dk_at dksX0_init_5 4 rfl rfl)
theorem dX0_init_126 : decode cX0_init 126 = .ok (.aload_n 0, 1) := dk_42 (dk_at dksX0_init_5 7 rfl rfl)
theorem dX0_init_127 : decode cX0_init 127 = .ok (.iconst 5, 1) := dk_8 (dk_at dksX0_init_5 8 rfl rfl)
theorem dX0_init_128 : decode cX0_init 128 = .ok (.newarray .int, 2) := dk_188_10 (dk_at dksX0_init_5 9 rfl rfl)
theorem dX0_init_130 : decode cX0_init 130 = .ok (.putfield 126, 3) := dk_181 0 126 (dk_at dksX0_init_5 11 rfl rfl)
theorem dX0_init_133 : decode cX0_init 133 = .ok (.aload_n 0, 1) := dk_42 (dk_at dksX0_init_5 14 rfl rfl)
theorem dX0_init_134 : decode cX0_init 134 = .ok (.bipush 21, 2) := dk_16 21 (dk_at dksX0_init_5 15 rfl rfl)
theorem dX0_init_136 : decode cX0_init 136 = .ok (.newarray .byte, 2) := dk_188_8 (dk_at dksX0_init_5 17 rfl rfl)
theorem dX0_init_138 : decode cX0_init 138 = .ok (.putfield 129, 3) := dk_181 0 129 (dk_at dksX0_init_5 19 rfl rfl)
theorem dX0_init_141 : decode cX0_init 141 = .ok (.aload_n 0, 1) := dk_42 (dk_at dksX0_init_5 22 rfl rfl)
theorem dX0_init_142 : decode cX0_init 142 = .ok (.sipush 441, 3) := dk_17 1 185 (dk_at dksX0_init_6 0 rfl rfl)
theorem dX0_init_145 : decode cX0_init 145 = .ok (.newarray .byte, 2) := dk_188_8 (dk_at dksX0_init_6 3 rfl rfl)
theorem dX0_init_147 : decode cX0_init 147 = .ok (.putfield 132, 3) := dk_181 0 132 (dk_at dksX0_init_6 5 rfl rfl)
theorem dX0_init_150 : decode cX0_init 150 = .ok (.aload_n 0, 1) := dk_42 (dk_at dksX0_init_6 8 rfl rfl)
theorem dX0_init_151 : decode cX0_init 151 = .ok (.iconst 4, 1) := dk_7 (dk_at dksX0_init_6 9 rfl rfl)
theorem dX0_init_152 : decode cX0_init 152 = .ok (.anewarray 135, 3) := dk_189 0 135 (dk_at dksX0_init_6 10 rfl rfl)
theorem dX0_init_155 : decode cX0_init 155 = .ok (.putfield 137, 3) := dk_181 0 137 (dk_at dksX0_init_6 13 rfl rfl)
theorem dX0_init_158 : decode cX0_init 158 = .ok (.iconst 0, 1) := dk_3 (dk_at dksX0_init_6 16 rfl rfl)
theorem dX0_init_159 : decode cX0_init 159 = .ok (.istore_n 1, 1) := dk_60 (dk_at dksX0_init_6 17 rfl rfl)
theorem dX0_init_160 : decode cX0_init 160 = .ok (.iload_n 1, 1) := dk_27 (dk_at dksX0_init_6 18 rfl rfl)
theorem dX0_init_161 : decode cX0_init 161 = .ok (.iconst 4, 1) := dk_7 (dk_at dksX0_init_6 19 rfl rfl)
theorem dX0_init_162 : decode cX0_init 162 = .ok (.if_icmp .ge 22, 3) := dk_162 0 22 (dk_at dksX0_init_6 20 rfl rfl)
theorem dX0_init_165 : decode cX0_init 165 = .ok (.aload_n 0, 1) := dk_42 (dk_at dksX0_init_6 23 rfl rfl)
theorem dX0_init_166 : decode cX0_init 166 = .ok (.getfield 137, 3) := dk_180 0 137 (dk_at dksX0_init_7 0 rfl rfl)
theorem dX0_init_169 : decode cX0_init 169 = .ok (.iload_n 1, 1) := dk_27 (dk_at dksX0_init_7 3 rfl rfl)
theorem dX0_init_170 : decode cX0_init 170 = .ok (.new 135, 3) := dk_187 0 135 (dk_at dksX0_init_7 4 rfl rfl)
theorem dX0_init_173 : decode cX0_init 173 = .ok (.dup, 1) := dk_89 (dk_at dksX0_init_7 7 rfl rfl)
theorem dX0_init_174 : decode cX0_init 174 = .ok (.invokespecial 141, 3) := dk_183 0 141 (dk_at dksX0_init_7 8 rfl rfl)
theorem dX0_init_177 : decode cX0_init 177 = .ok (.aastore, 1) := dk_83 (dk_at dksX0_init_7 11 rfl rfl)
theorem dX0_init_178 : decode cX0_init 178 = .ok (.iinc 1 1, 3) := dk_132 1 1 (dk_at dksX0_init_7 12 rfl rfl)
theorem dX0_init_181 : decode cX0_init 181 = .ok (.goto (-21), 3) := dk_167 255 235 (dk_at dksX0_init_7 15 rfl rfl)
theorem dX0_init_184 : decode cX0_init 184 = .ok (.return_, 1) := dk_177 (dk_at dksX0_init_7 18 rfl rfl)
abbrev cX0_feed : ByteArray := prog_1_method_12_code
def yX0_feed : MethodName := ⟨RX0, "feed", "(I)I"⟩
def dkwX0_feed_2 : List UInt8 := [42, 180, 0, 148, 172]
abbrev dktX0_feed_2 : List UInt8 := dkwX0_feed_2 ++ []
def dkwX0_feed_1 : List UInt8 := [16, 253, 172, 42, 180, 0, 119, 42, 180, 0, 148, 27, 145, 84, 42, 89, 180, 0, 148, 4, 96, 181, 0, 148]
abbrev dktX0_feed_1 : List UInt8 := dkwX0_feed_1 ++ dktX0_feed_2
def dkwX0_feed_0 : List UInt8 := [27, 133, 9, 20, 0, 142, 184, 0, 144, 154, 0, 5, 2, 172, 42, 180, 0, 148, 17, 0, 160, 160, 0, 6]
abbrev dktX0_feed_0 : List UInt8 := dkwX0_feed_0 ++ dktX0_feed_1
theorem dksX0_feed_0 : cX0_feed.data.toList.drop 0 = dktX0_feed_0 := by decide +kernel
theorem dksX0_feed_1 : cX0_feed.data.toList.drop 24 = dktX0_feed_1 := dk_seg dksX0_feed_0 24 rfl rfl
theorem dksX0_feed_2 : cX0_feed.data.toList.drop 48 = dktX0_feed_2 := dk_seg dksX0_feed_1 24 rfl rfl
theorem dX0_feed_0 : decode cX0_feed 0 = .ok (.iload_n 1, 1) := dk_27 (dk_at dksX0_feed_0 0 rfl rfl)
theorem dX0_feed_1 : decode cX0_feed 1 = .ok (.i2l, 1) := dk_133 (dk_at dksX0_feed_0 1 rfl rfl)
theorem dX0_feed_2 : decode cX0_feed 2 = .ok (.lconst 0, 1) := dk_9 (dk_at dksX0_feed_0 2 rfl rfl)
theorem dX0_feed_3 : decode cX0_feed 3 = .ok (.ldc2_w 142, 3) := dk_20 0 142 (dk_at dksX0_feed_0 3 rfl rfl)
theorem dX0_feed_6 : decode cX0_feed 6 = .ok (.invokestatic 144, 3) := dk_184 0 144 (dk_at dksX0_feed_0 6 rfl rfl)
theorem dX0_feed_9 : decode cX0_feed 9 = .ok (.ifCond .ne 5, 3) := dk_154 0 5 (dk_at dksX0_feed_0 9 rfl rfl)
theorem dX0_feed_12 : decode cX0_feed 12 = .ok (.iconst (-1), 1) := dk_2 (dk_at dksX0_feed_0 12 rfl rfl)
theorem dX0_feed_13 : decode cX0_feed 13 = .ok (.ireturn, 1) := dk_172 (dk_at dksX0_feed_0 13 rfl rfl)
theorem dX0_feed_14 : decode cX0_feed 14 = .ok (.aload_n 0, 1) := dk_42 (dk_at dksX0_feed_0 14 rfl rfl)
theorem dX0_feed_15 : decode cX0_feed 15 = .ok (.getfield 148, 3) := dk_180 0 148 (dk_at dksX0_feed_0 15 rfl rfl)
theorem dX0_feed_18 : decode cX0_feed 18 = .ok (.sipush 160, 3) := dk_17 0 160 (dk_at dksX0_feed_0 18 rfl rfl)
theorem dX0_feed_21 : decode cX0_feed 21 = .ok (.if_icmp .ne 6, 3) := dk_160 0 6 (dk_at dksX0_feed_0 21 rfl rfl)
theorem dX0_feed_24 : decode cX0_feed 24 = .ok (.bipush (-3), 2) := dk_16 253 (dk_at dksX0_feed_1 0 rfl rfl)
theorem dX0_feed_26 : decode cX0_feed 26 = .ok (.ireturn, 1) := dk_172 (dk_at dksX0_feed_1 2 rfl rfl)
theorem dX0_feed_27 : decode cX0_feed 27 = .ok (.aload_n 0, 1) := dk_42 (dk_at dksX0_feed_1 3 rfl rfl)
theorem dX0_feed_28 : decode cX0_feed 28 = .ok (.getfield 119, 3) := dk_180 0 119 (dk_at dksX0_feed_1 4 rfl rfl)
theorem dX0_feed_31 : decode cX0_feed 31 = .ok (.aload_n 0, 1) := dk_42 (dk_at dksX0_feed_1 7 rfl rfl)
theorem dX0_feed_32 : decode cX0_feed 32 = .ok (.getfield 148, 3) := dk_180 0 148 (dk_at dksX0_feed_1 8 rfl rfl)
theorem dX0_feed_35 : decode cX0_feed 35 = .ok (.iload_n 1, 1) := dk_27 (dk_at dksX0_feed_1 11 rfl rfl)
theorem dX0_feed_36 : decode cX0_feed 36 = .ok (.i2b, 1) := dk_145 (dk_at dksX0_feed_1 12 rfl rfl)
theorem dX0_feed_37 : decode cX0_feed 37 = .ok (.bastore, 1) := dk_84 (dk_at dksX0_feed_1 13 rfl rfl)
theorem dX0_feed_38 : decode cX0_feed 38 = .ok (.aload_n 0, 1) := dk_42 (dk_at dksX0_feed_1 14 rfl rfl)
theorem dX0_feed_39 : decode cX0_feed 39 = .ok (.dup, 1) := dk_89 (dk_at dksX0_feed_1 15 rfl rfl)
theorem dX0_feed_40 : decode cX0_feed 40 = .ok (.getfield 148, 3) := dk_180 0 148 (dk_at dksX0_feed_1 16 rfl rfl)
theorem dX0_feed_43 : decode cX0_feed 43 = .ok (.iconst 1, 1) := dk_4 (dk_at dksX0_feed_1 19 rfl rfl)
theorem dX0_feed_44 : decode cX0_feed 44 = .ok (.iadd, 1) := dk_96 (dk_at dksX0_feed_1 20 rfl rfl)
theorem dX0_feed_45 : decode cX0_feed 45 = .ok (.putfield 148, 3) := dk_181 0 148 (dk_at dksX0_feed_1 21 rfl rfl)
theorem dX0_feed_48 : decode cX0_feed 48 = .ok (.aload_n 0, 1) := dk_42 (dk_at dksX0_feed_2 0 rfl rfl)
theorem dX0_feed_49 : decode cX0_feed 49 = .ok (.getfield 148, 3) := dk_180 0 148 (dk_at dksX0_feed_2 1 rfl rfl)
theorem dX0_feed_52 : decode cX0_feed 52 = .ok (.ireturn, 1) := dk_172 (dk_at dksX0_feed_2 4 rfl rfl)
abbrev cX0_in : ByteArray := prog_1_method_1_code
def yX0_in : MethodName := ⟨RX0, "in", "(JJJ)Z"⟩
def dkwX0_in_0 : List UInt8 := [30, 32, 148, 155, 0, 14, 30, 22, 4, 148, 157, 0, 7, 4, 167, 0, 4, 3, 172]
abbrev dktX0_in_0 : List UInt8 := dkwX0_in_0 ++ []
theorem dksX0_in_0 : cX0_in.data.toList.drop 0 = dktX0_in_0 := by decide +kernel
theorem dX0_in_0 : decode cX0_in 0 = .ok (.lload_n 0, 1) := dk_30 (dk_at dksX0_in_0 0 rfl rfl)
theorem dX0_in_1 : decode cX0_in 1 = .ok (.lload_n 2, 1) := dk_32 (dk_at dksX0_in_0 1 rfl rfl)
theorem dX0_in_2 : decode cX0_in 2 = .ok (.lcmp, 1) := dk_148 (dk_at dksX0_in_0 2 rfl rfl)
theorem dX0_in_3 : decode cX0_in 3 = .ok (.ifCond .lt 14, 3) := dk_155 0 14 (dk_at dksX0_in_0 3 rfl rfl)
theorem dX0_in_6 : decode cX0_in 6 = .ok (.lload_n 0, 1) := dk_30 (dk_at dksX0_in_0 6 rfl rfl)
theorem dX0_in_7 : decode cX0_in 7 = .ok (.lload 4, 2) := dk_22 4 (dk_at dksX0_in_0 7 rfl rfl)
theorem dX0_in_9 : decode cX0_in 9 = .ok (.lcmp, 1) := dk_148 (dk_at dksX0_in_0 9 rfl rfl)
theorem dX0_in_10 : decode cX0_in 10 = .ok (.ifCond .gt 7, 3) := dk_157 0 7 (dk_at dksX0_in_0 10 rfl rfl)
theorem dX0_in_13 : decode cX0_in 13 = .ok (.iconst 1, 1) := dk_4 (dk_at dksX0_in_0 13 rfl rfl)
theorem dX0_in_14 : decode cX0_in 14 = .ok (.goto 4, 3) := dk_167 0 4 (dk_at dksX0_in_0 14 rfl rfl)
theorem dX0_in_17 : decode cX0_in 17 = .ok (.iconst 0, 1) := dk_3 (dk_at dksX0_in_0 17 rfl rfl)
theorem dX0_in_18 : decode cX0_in 18 = .ok (.ireturn, 1) := dk_172 (dk_at dksX0_in_0 18 rfl rfl)
abbrev cX0_end : ByteArray := prog_1_method_13_code
def yX0_end : MethodName := ⟨RX0, "end", "(I)I"⟩
def dkwX0_end_1 : List UInt8 := [181, 0, 148, 28, 172]
abbrev dktX0_end_1 : List UInt8 := dkwX0_end_1 ++ []
def dkwX0_end_0 : List UInt8 := [27, 133, 9, 42, 180, 0, 148, 133, 184, 0, 144, 154, 0, 5, 2, 172, 42, 180, 0, 148, 61, 42, 27]
abbrev dktX0_end_0 : List UInt8 := dkwX0_end_0 ++ dktX0_end_1
theorem dksX0_end_0 : cX0_end.data.toList.drop 0 = dktX0_end_0 := by decide +kernel
theorem dksX0_end_1 : cX0_end.data.toList.drop 23 = dktX0_end_1 := dk_seg dksX0_end_0 23 rfl rfl
theorem dX0_end_0 : decode cX0_end 0 = .ok (.iload_n 1, 1) := dk_27 (dk_at dksX0_end_0 0 rfl rfl)
theorem dX0_end_1 : decode cX0_end 1 = .ok (.i2l, 1) := dk_133 (dk_at dksX0_end_0 1 rfl rfl)
theorem dX0_end_2 : decode cX0_end 2 = .ok (.lconst 0, 1) := dk_9 (dk_at dksX0_end_0 2 rfl rfl)
theorem dX0_end_3 : decode cX0_end 3 = .ok (.aload_n 0, 1) := dk_42 (dk_at dksX0_end_0 3 rfl rfl)
theorem dX0_end_4 : decode cX0_end 4 = .ok (.getfield 148, 3) := dk_180 0 148 (dk_at dksX0_end_0 4 rfl rfl)
theorem dX0_end_7 : decode cX0_end 7 = .ok (.i2l, 1) := dk_133 (dk_at dksX0_end_0 7 rfl rfl)
theorem dX0_end_8 : decode cX0_end 8 = .ok (.invokestatic 144, 3) := dk_184 0 144 (dk_at dksX0_end_0 8 rfl rfl)
theorem dX0_end_11 : decode cX0_end 11 = .ok (.ifCond .ne 5, 3) := dk_154 0 5 (dk_at dksX0_end_0 11 rfl rfl)
theorem dX0_end_14 : decode cX0_end 14 = .ok (.iconst (-1), 1) := dk_2 (dk_at dksX0_end_0 14 rfl rfl)
theorem dX0_end_15 : decode cX0_end 15 = .ok (.ireturn, 1) := dk_172 (dk_at dksX0_end_0 15 rfl rfl)
theorem dX0_end_16 : decode cX0_end 16 = .ok (.aload_n 0, 1) := dk_42 (dk_at dksX0_end_0 16 rfl rfl)
theorem dX0_end_17 : decode cX0_end 17 = .ok (.getfield 148, 3) := dk_180 0 148 (dk_at dksX0_end_0 17 rfl rfl)
theorem dX0_end_20 : decode cX0_end 20 = .ok (.istore_n 2, 1) := dk_61 (dk_at dksX0_end_0 20 rfl rfl)
theorem dX0_end_21 : decode cX0_end 21 = .ok (.aload_n 0, 1) := dk_42 (dk_at dksX0_end_0 21 rfl rfl)
theorem dX0_end_22 : decode cX0_end 22 = .ok (.iload_n 1, 1) := dk_27 (dk_at dksX0_end_0 22 rfl rfl)
theorem dX0_end_23 : decode cX0_end 23 = .ok (.putfield 148, 3) := dk_181 0 148 (dk_at dksX0_end_1 0 rfl rfl)
theorem dX0_end_26 : decode cX0_end 26 = .ok (.iload_n 2, 1) := dk_28 (dk_at dksX0_end_1 3 rfl rfl)
theorem dX0_end_27 : decode cX0_end 27 = .ok (.ireturn, 1) := dk_172 (dk_at dksX0_end_1 4 rfl rfl)
abbrev cX0_text : ByteArray := prog_1_method_14_code
def yX0_text : MethodName := ⟨RX0, "text", "()I"⟩
def dkwX0_text_2 : List UInt8 := [181, 0, 171, 29, 172, 77, 42, 44, 180, 0, 176, 181, 0, 151, 16, 246, 44, 180, 0, 179, 100, 172]
abbrev dktX0_text_2 : List UInt8 := dkwX0_text_2 ++ []
def dkwX0_text_1 : List UInt8 := [77, 44, 182, 0, 159, 62, 42, 180, 0, 109, 44, 180, 0, 162, 182, 0, 165, 42, 3, 181, 0, 168, 42, 3]
abbrev dktX0_text_1 : List UInt8 := dkwX0_text_1 ++ dktX0_text_2
def dkwX0_text_0 : List UInt8 := [42, 180, 0, 148, 60, 42, 3, 181, 0, 148, 42, 3, 181, 0, 151, 187, 0, 154, 89, 42, 27, 183, 0, 156]
abbrev dktX0_text_0 : List UInt8 := dkwX0_text_0 ++ dktX0_text_1
theorem dksX0_text_0 : cX0_text.data.toList.drop 0 = dktX0_text_0 := by decide +kernel
theorem dksX0_text_1 : cX0_text.data.toList.drop 24 = dktX0_text_1 := dk_seg dksX0_text_0 24 rfl rfl
theorem dksX0_text_2 : cX0_text.data.toList.drop 48 = dktX0_text_2 := dk_seg dksX0_text_1 24 rfl rfl
theorem dX0_text_0 : decode cX0_text 0 = .ok (.aload_n 0, 1) := dk_42 (dk_at dksX0_text_0 0 rfl rfl)
theorem dX0_text_1 : decode cX0_text 1 = .ok (.getfield 148, 3) := dk_180 0 148 (dk_at dksX0_text_0 1 rfl rfl)
theorem dX0_text_4 : decode cX0_text 4 = .ok (.istore_n 1, 1) := dk_60 (dk_at dksX0_text_0 4 rfl rfl)
theorem dX0_text_5 : decode cX0_text 5 = .ok (.aload_n 0, 1) := dk_42 (dk_at dksX0_text_0 5 rfl rfl)
theorem dX0_text_6 : decode cX0_text 6 = .ok (.iconst 0, 1) := dk_3 (dk_at dksX0_text_0 6 rfl rfl)
theorem dX0_text_7 : decode cX0_text 7 = .ok (.putfield 148, 3) := dk_181 0 148 (dk_at dksX0_text_0 7 rfl rfl)
theorem dX0_text_10 : decode cX0_text 10 = .ok (.aload_n 0, 1) := dk_42 (dk_at dksX0_text_0 10 rfl rfl)
theorem dX0_text_11 : decode cX0_text 11 = .ok (.iconst 0, 1) := dk_3 (dk_at dksX0_text_0 11 rfl rfl)
theorem dX0_text_12 : decode cX0_text 12 = .ok (.putfield 151, 3) := dk_181 0 151 (dk_at dksX0_text_0 12 rfl rfl)
theorem dX0_text_15 : decode cX0_text 15 = .ok (.new 154, 3) := dk_187 0 154 (dk_at dksX0_text_0 15 rfl rfl)
theorem dX0_text_18 : decode cX0_text 18 = .ok (.dup, 1) := dk_89 (dk_at dksX0_text_0 18 rfl rfl)
theorem dX0_text_19 : decode cX0_text 19 = .ok (.aload_n 0, 1) := dk_42 (dk_at dksX0_text_0 19 rfl rfl)
theorem dX0_text_20 : decode cX0_text 20 = .ok (.iload_n 1, 1) := dk_27 (dk_at dksX0_text_0 20 rfl rfl)
theorem dX0_text_21 : decode cX0_text 21 = .ok (.invokespecial 156, 3) := dk_183 0 156 (dk_at dksX0_text_0 21 rfl rfl)
theorem dX0_text_24 : decode cX0_text 24 = .ok (.astore_n 2, 1) := dk_77 (dk_at dksX0_text_1 0 rfl rfl)
theorem dX0_text_25 : decode cX0_text 25 = .ok (.aload_n 2, 1) := dk_44 (dk_at dksX0_text_1 1 rfl rfl)
theorem dX0_text_26 : decode cX0_text 26 = .ok (.invokevirtual 159, 3) := dk_182 0 159 (dk_at dksX0_text_1 2 rfl rfl)
theorem dX0_text_29 : decode cX0_text 29 = .ok (.istore_n 3, 1) := dk_62 (dk_at dksX0_text_1 5 rfl rfl)
theorem dX0_text_30 : decode cX0_text 30 = .ok (.aload_n 0, 1) := dk_42 (dk_at dksX0_text_1 6 rfl rfl)
theorem dX0_text_31 : decode cX0_text 31 = .ok (.getfield 109, 3) := dk_180 0 109 (dk_at dksX0_text_1 7 rfl rfl)
theorem dX0_text_34 : decode cX0_text 34 = .ok (.aload_n 2, 1) := dk_44 (dk_at dksX0_text_1 10 rfl rfl)
theorem dX0_text_35 : decode cX0_text 35 = .ok (.getfield 162, 3) := dk_180 0 162 (dk_at dksX0_text_1 11 rfl rfl)
theorem dX0_text_38 : decode cX0_text 38 = .ok (.invokevirtual 165, 3) := dk_182 0 165 (dk_at dksX0_text_1 14 rfl rfl)
theorem dX0_text_41 : decode cX0_text 41 = .ok (.aload_n 0, 1) := dk_42 (dk_at dksX0_text_1 17 rfl rfl)
theorem dX0_text_42 : decode cX0_text 42 = .ok (.iconst 0, 1) := dk_3 (dk_at dksX0_text_1 18 rfl rfl)
theorem dX0_text_43 : decode cX0_text 43 = .ok (.putfield 168, 3) := dk_181 0 168 (dk_at dksX0_text_1 19 rfl rfl)
theorem dX0_text_46 : decode cX0_text 46 = .ok (.aload_n 0, 1) := dk_42 (dk_at dksX0_text_1 22 rfl rfl)
theorem dX0_text_47 : decode cX0_text 47 = .ok (.iconst 0, 1) := dk_3 (dk_at dksX0_text_1 23 rfl rfl)
theorem dX0_text_48 : decode cX0_text 48 = .ok (.putfield 171, 3) := dk_181 0 171 (dk_at dksX0_text_2 0 rfl rfl)
theorem dX0_text_51 : decode cX0_text 51 = .ok (.iload_n 3, 1) := dk_29 (dk_at dksX0_text_2 3 rfl rfl)
theorem dX0_text_52 : decode cX0_text 52 = .ok (.ireturn, 1) := dk_172 (dk_at dksX0_text_2 4 rfl rfl)
theorem dX0_text_53 : decode cX0_text 53 = .ok (.astore_n 2, 1) := dk_77 (dk_at dksX0_text_2 5 rfl rfl)
theorem dX0_text_54 : decode cX0_text 54 = .ok (.aload_n 0, 1) := dk_42 (dk_at dksX0_text_2 6 rfl rfl)
theorem dX0_text_55 : decode cX0_text 55 = .ok (.aload_n 2, 1) := dk_44 (dk_at dksX0_text_2 7 rfl rfl)
theorem dX0_text_56 : decode cX0_text 56 = .ok (.getfield 176, 3) := dk_180 0 176 (dk_at dksX0_text_2 8 rfl rfl)
theorem dX0_text_59 : decode cX0_text 59 = .ok (.putfield 151, 3) := dk_181 0 151 (dk_at dksX0_text_2 11 rfl rfl)
theorem dX0_text_62 : decode cX0_text 62 = .ok (.bipush (-10), 2) := dk_16 246 (dk_at dksX0_text_2 14 rfl rfl)
theorem dX0_text_64 : decode cX0_text 64 = .ok (.aload_n 2, 1) := dk_44 (dk_at dksX0_text_2 16 rfl rfl)
theorem dX0_text_65 : decode cX0_text 65 = .ok (.getfield 179, 3) := dk_180 0 179 (dk_at dksX0_text_2 17 rfl rfl)
theorem dX0_text_68 : decode cX0_text 68 = .ok (.isub, 1) := dk_100 (dk_at dksX0_text_2 20 rfl rfl)
theorem dX0_text_69 : decode cX0_text 69 = .ok (.ireturn, 1) := dk_172 (dk_at dksX0_text_2 21 rfl rfl)
abbrev cX0_fault : ByteArray := prog_1_method_15_code
def yX0_fault : MethodName := ⟨RX0, "fault", "()I"⟩
theorem dX0_fault_0 : decode cX0_fault 0 = .ok (.aload_n 0, 1) := by decide +kernel
theorem dX0_fault_1 : decode cX0_fault 1 = .ok (.getfield 151, 3) := by decide +kernel
theorem dX0_fault_4 : decode cX0_fault 4 = .ok (.ireturn, 1) := by decide +kernel
abbrev cX0_rule : ByteArray := prog_1_method_20_code
def yX0_rule : MethodName := ⟨RX0, "rule", "(I)I"⟩
def dkwX0_rule_4 : List UInt8 := [172, 2, 172]
abbrev dktX0_rule_4 : List UInt8 := dkwX0_rule_4 ++ []
def dkwX0_rule_3 : List UInt8 := [42, 180, 0, 109, 182, 0, 49, 172, 42, 180, 0, 109, 182, 0, 191, 172, 42, 180, 0, 109, 6, 182, 0, 89]
abbrev dktX0_rule_3 : List UInt8 := dkwX0_rule_3 ++ dktX0_rule_4
def dkwX0_rule_2 : List UInt8 := [42, 180, 0, 109, 180, 0, 182, 172, 42, 180, 0, 109, 180, 0, 46, 172, 42, 180, 0, 109, 180, 0, 56, 172]
abbrev dktX0_rule_2 : List UInt8 := dkwX0_rule_2 ++ dktX0_rule_3
def dkwX0_rule_1 : List UInt8 := [170, 0, 0, 0, 0, 0, 88, 0, 0, 0, 0, 0, 0, 0, 5, 0, 0, 0, 39, 0, 0, 0, 47, 0, 0, 0, 55, 0, 0, 0, 63, 0, 0, 0, 71, 0, 0, 0, 79]
abbrev dktX0_rule_1 : List UInt8 := dkwX0_rule_1 ++ dktX0_rule_2
def dkwX0_rule_0 : List UInt8 := [27]
abbrev dktX0_rule_0 : List UInt8 := dkwX0_rule_0 ++ dktX0_rule_1
theorem dksX0_rule_0 : cX0_rule.data.toList.drop 0 = dktX0_rule_0 := by decide +kernel
theorem dksX0_rule_1 : cX0_rule.data.toList.drop 1 = dktX0_rule_1 := dk_seg dksX0_rule_0 1 rfl rfl
theorem dksX0_rule_2 : cX0_rule.data.toList.drop 40 = dktX0_rule_2 := dk_seg dksX0_rule_1 39 rfl rfl
theorem dksX0_rule_3 : cX0_rule.data.toList.drop 64 = dktX0_rule_3 := dk_seg dksX0_rule_2 24 rfl rfl
theorem dksX0_rule_4 : cX0_rule.data.toList.drop 88 = dktX0_rule_4 := dk_seg dksX0_rule_3 24 rfl rfl
theorem dX0_rule_0 : decode cX0_rule 0 = .ok (.iload_n 1, 1) := dk_27 (dk_at dksX0_rule_0 0 rfl rfl)
theorem dX0_rule_1 : decode cX0_rule 1 = .ok (.tableswitch 88 0 5 #[39, 47, 55, 63, 71, 79], 39) := by decide +kernel
theorem dX0_rule_40 : decode cX0_rule 40 = .ok (.aload_n 0, 1) := dk_42 (dk_at dksX0_rule_2 0 rfl rfl)
theorem dX0_rule_41 : decode cX0_rule 41 = .ok (.getfield 109, 3) := dk_180 0 109 (dk_at dksX0_rule_2 1 rfl rfl)
theorem dX0_rule_44 : decode cX0_rule 44 = .ok (.getfield 182, 3) := dk_180 0 182 (dk_at dksX0_rule_2 4 rfl rfl)
theorem dX0_rule_47 : decode cX0_rule 47 = .ok (.ireturn, 1) := dk_172 (dk_at dksX0_rule_2 7 rfl rfl)
theorem dX0_rule_48 : decode cX0_rule 48 = .ok (.aload_n 0, 1) := dk_42 (dk_at dksX0_rule_2 8 rfl rfl)
theorem dX0_rule_49 : decode cX0_rule 49 = .ok (.getfield 109, 3) := dk_180 0 109 (dk_at dksX0_rule_2 9 rfl rfl)
theorem dX0_rule_52 : decode cX0_rule 52 = .ok (.getfield 46, 3) := dk_180 0 46 (dk_at dksX0_rule_2 12 rfl rfl)
theorem dX0_rule_55 : decode cX0_rule 55 = .ok (.ireturn, 1) := dk_172 (dk_at dksX0_rule_2 15 rfl rfl)
theorem dX0_rule_56 : decode cX0_rule 56 = .ok (.aload_n 0, 1) := dk_42 (dk_at dksX0_rule_2 16 rfl rfl)
theorem dX0_rule_57 : decode cX0_rule 57 = .ok (.getfield 109, 3) := dk_180 0 109 (dk_at dksX0_rule_2 17 rfl rfl)
theorem dX0_rule_60 : decode cX0_rule 60 = .ok (.getfield 56, 3) := dk_180 0 56 (dk_at dksX0_rule_2 20 rfl rfl)
theorem dX0_rule_63 : decode cX0_rule 63 = .ok (.ireturn, 1) := dk_172 (dk_at dksX0_rule_2 23 rfl rfl)
theorem dX0_rule_64 : decode cX0_rule 64 = .ok (.aload_n 0, 1) := dk_42 (dk_at dksX0_rule_3 0 rfl rfl)
theorem dX0_rule_65 : decode cX0_rule 65 = .ok (.getfield 109, 3) := dk_180 0 109 (dk_at dksX0_rule_3 1 rfl rfl)
theorem dX0_rule_68 : decode cX0_rule 68 = .ok (.invokevirtual 49, 3) := dk_182 0 49 (dk_at dksX0_rule_3 4 rfl rfl)
theorem dX0_rule_71 : decode cX0_rule 71 = .ok (.ireturn, 1) := dk_172 (dk_at dksX0_rule_3 7 rfl rfl)
theorem dX0_rule_72 : decode cX0_rule 72 = .ok (.aload_n 0, 1) := dk_42 (dk_at dksX0_rule_3 8 rfl rfl)
theorem dX0_rule_73 : decode cX0_rule 73 = .ok (.getfield 109, 3) := dk_180 0 109 (dk_at dksX0_rule_3 9 rfl rfl)
theorem dX0_rule_76 : decode cX0_rule 76 = .ok (.invokevirtual 191, 3) := dk_182 0 191 (dk_at dksX0_rule_3 12 rfl rfl)
theorem dX0_rule_79 : decode cX0_rule 79 = .ok (.ireturn, 1) := dk_172 (dk_at dksX0_rule_3 15 rfl rfl)
theorem dX0_rule_80 : decode cX0_rule 80 = .ok (.aload_n 0, 1) := dk_42 (dk_at dksX0_rule_3 16 rfl rfl)
theorem dX0_rule_81 : decode cX0_rule 81 = .ok (.getfield 109, 3) := dk_180 0 109 (dk_at dksX0_rule_3 17 rfl rfl)
theorem dX0_rule_84 : decode cX0_rule 84 = .ok (.iconst 3, 1) := dk_6 (dk_at dksX0_rule_3 20 rfl rfl)
theorem dX0_rule_85 : decode cX0_rule 85 = .ok (.invokevirtual 89, 3) := dk_182 0 89 (dk_at dksX0_rule_3 21 rfl rfl)
theorem dX0_rule_88 : decode cX0_rule 88 = .ok (.ireturn, 1) := dk_172 (dk_at dksX0_rule_4 0 rfl rfl)
theorem dX0_rule_89 : decode cX0_rule 89 = .ok (.iconst (-1), 1) := dk_2 (dk_at dksX0_rule_4 1 rfl rfl)
theorem dX0_rule_90 : decode cX0_rule 90 = .ok (.ireturn, 1) := dk_172 (dk_at dksX0_rule_4 2 rfl rfl)
abbrev cX0_town : ByteArray := prog_1_method_21_code
def yX0_town : MethodName := ⟨RX0, "town", "(II)I"⟩
def dkwX0_town_2 : List UInt8 := [172]
abbrev dktX0_town_2 : List UInt8 := dkwX0_town_2 ++ []
def dkwX0_town_1 : List UInt8 := [162, 0, 15, 42, 180, 0, 109, 27, 28, 182, 0, 7, 167, 0, 12, 42, 42, 180, 0, 109, 27, 182, 0, 18]
abbrev dktX0_town_1 : List UInt8 := dkwX0_town_1 ++ dktX0_town_2
def dkwX0_town_0 : List UInt8 := [42, 27, 182, 0, 185, 153, 0, 15, 28, 133, 9, 20, 0, 194, 184, 0, 144, 154, 0, 5, 2, 172, 28, 7]
abbrev dktX0_town_0 : List UInt8 := dkwX0_town_0 ++ dktX0_town_1
theorem dksX0_town_0 : cX0_town.data.toList.drop 0 = dktX0_town_0 := by decide +kernel
theorem dksX0_town_1 : cX0_town.data.toList.drop 24 = dktX0_town_1 := dk_seg dksX0_town_0 24 rfl rfl
theorem dksX0_town_2 : cX0_town.data.toList.drop 48 = dktX0_town_2 := dk_seg dksX0_town_1 24 rfl rfl
theorem dX0_town_0 : decode cX0_town 0 = .ok (.aload_n 0, 1) := dk_42 (dk_at dksX0_town_0 0 rfl rfl)
theorem dX0_town_1 : decode cX0_town 1 = .ok (.iload_n 1, 1) := dk_27 (dk_at dksX0_town_0 1 rfl rfl)
theorem dX0_town_2 : decode cX0_town 2 = .ok (.invokevirtual 185, 3) := dk_182 0 185 (dk_at dksX0_town_0 2 rfl rfl)
theorem dX0_town_5 : decode cX0_town 5 = .ok (.ifCond .eq 15, 3) := dk_153 0 15 (dk_at dksX0_town_0 5 rfl rfl)
theorem dX0_town_8 : decode cX0_town 8 = .ok (.iload_n 2, 1) := dk_28 (dk_at dksX0_town_0 8 rfl rfl)
theorem dX0_town_9 : decode cX0_town 9 = .ok (.i2l, 1) := dk_133 (dk_at dksX0_town_0 9 rfl rfl)
theorem dX0_town_10 : decode cX0_town 10 = .ok (.lconst 0, 1) := dk_9 (dk_at dksX0_town_0 10 rfl rfl)
theorem dX0_town_11 : decode cX0_town 11 = .ok (.ldc2_w 194, 3) := dk_20 0 194 (dk_at dksX0_town_0 11 rfl rfl)
theorem dX0_town_14 : decode cX0_town 14 = .ok (.invokestatic 144, 3) := dk_184 0 144 (dk_at dksX0_town_0 14 rfl rfl)
theorem dX0_town_17 : decode cX0_town 17 = .ok (.ifCond .ne 5, 3) := dk_154 0 5 (dk_at dksX0_town_0 17 rfl rfl)
theorem dX0_town_20 : decode cX0_town 20 = .ok (.iconst (-1), 1) := dk_2 (dk_at dksX0_town_0 20 rfl rfl)
theorem dX0_town_21 : decode cX0_town 21 = .ok (.ireturn, 1) := dk_172 (dk_at dksX0_town_0 21 rfl rfl)
theorem dX0_town_22 : decode cX0_town 22 = .ok (.iload_n 2, 1) := dk_28 (dk_at dksX0_town_0 22 rfl rfl)
theorem dX0_town_23 : decode cX0_town 23 = .ok (.iconst 4, 1) := dk_7 (dk_at dksX0_town_0 23 rfl rfl)
theorem dX0_town_24 : decode cX0_town 24 = .ok (.if_icmp .ge 15, 3) := dk_162 0 15 (dk_at dksX0_town_1 0 rfl rfl)
theorem dX0_town_27 : decode cX0_town 27 = .ok (.aload_n 0, 1) := dk_42 (dk_at dksX0_town_1 3 rfl rfl)
theorem dX0_town_28 : decode cX0_town 28 = .ok (.getfield 109, 3) := dk_180 0 109 (dk_at dksX0_town_1 4 rfl rfl)
theorem dX0_town_31 : decode cX0_town 31 = .ok (.iload_n 1, 1) := dk_27 (dk_at dksX0_town_1 7 rfl rfl)
theorem dX0_town_32 : decode cX0_town 32 = .ok (.iload_n 2, 1) := dk_28 (dk_at dksX0_town_1 8 rfl rfl)
theorem dX0_town_33 : decode cX0_town 33 = .ok (.invokevirtual 7, 3) := dk_182 0 7 (dk_at dksX0_town_1 9 rfl rfl)
theorem dX0_town_36 : decode cX0_town 36 = .ok (.goto 12, 3) := dk_167 0 12 (dk_at dksX0_town_1 12 rfl rfl)
theorem dX0_town_39 : decode cX0_town 39 = .ok (.aload_n 0, 1) := dk_42 (dk_at dksX0_town_1 15 rfl rfl)
theorem dX0_town_40 : decode cX0_town 40 = .ok (.aload_n 0, 1) := dk_42 (dk_at dksX0_town_1 16 rfl rfl)
theorem dX0_town_41 : decode cX0_town 41 = .ok (.getfield 109, 3) := dk_180 0 109 (dk_at dksX0_town_1 17 rfl rfl)
theorem dX0_town_44 : decode cX0_town 44 = .ok (.iload_n 1, 1) := dk_27 (dk_at dksX0_town_1 20 rfl rfl)
theorem dX0_town_45 : decode cX0_town 45 = .ok (.invokevirtual 18, 3) := dk_182 0 18 (dk_at dksX0_town_1 21 rfl rfl)
theorem dX0_town_48 : decode cX0_town 48 = .ok (.ireturn, 1) := dk_172 (dk_at dksX0_town_2 0 rfl rfl)
abbrev cX0_isTown : ByteArray := prog_1_method_16_code
def yX0_isTown : MethodName := ⟨RX0, "isTown", "(I)Z"⟩
def dkwX0_isTown_0 : List UInt8 := [27, 133, 9, 42, 180, 0, 109, 180, 0, 182, 4, 100, 133, 184, 0, 144, 172]
abbrev dktX0_isTown_0 : List UInt8 := dkwX0_isTown_0 ++ []
theorem dksX0_isTown_0 : cX0_isTown.data.toList.drop 0 = dktX0_isTown_0 := by decide +kernel
theorem dX0_isTown_0 : decode cX0_isTown 0 = .ok (.iload_n 1, 1) := dk_27 (dk_at dksX0_isTown_0 0 rfl rfl)
theorem dX0_isTown_1 : decode cX0_isTown 1 = .ok (.i2l, 1) := dk_133 (dk_at dksX0_isTown_0 1 rfl rfl)
theorem dX0_isTown_2 : decode cX0_isTown 2 = .ok (.lconst 0, 1) := dk_9 (dk_at dksX0_isTown_0 2 rfl rfl)
theorem dX0_isTown_3 : decode cX0_isTown 3 = .ok (.aload_n 0, 1) := dk_42 (dk_at dksX0_isTown_0 3 rfl rfl)
theorem dX0_isTown_4 : decode cX0_isTown 4 = .ok (.getfield 109, 3) := dk_180 0 109 (dk_at dksX0_isTown_0 4 rfl rfl)
theorem dX0_isTown_7 : decode cX0_isTown 7 = .ok (.getfield 182, 3) := dk_180 0 182 (dk_at dksX0_isTown_0 7 rfl rfl)
theorem dX0_isTown_10 : decode cX0_isTown 10 = .ok (.iconst 1, 1) := dk_4 (dk_at dksX0_isTown_0 10 rfl rfl)
theorem dX0_isTown_11 : decode cX0_isTown 11 = .ok (.isub, 1) := dk_100 (dk_at dksX0_isTown_0 11 rfl rfl)
theorem dX0_isTown_12 : decode cX0_isTown 12 = .ok (.i2l, 1) := dk_133 (dk_at dksX0_isTown_0 12 rfl rfl)
theorem dX0_isTown_13 : decode cX0_isTown 13 = .ok (.invokestatic 144, 3) := dk_184 0 144 (dk_at dksX0_isTown_0 13 rfl rfl)
theorem dX0_isTown_16 : decode cX0_isTown 16 = .ok (.ireturn, 1) := dk_172 (dk_at dksX0_isTown_0 16 rfl rfl)
abbrev cX0_plays : ByteArray := prog_1_method_3_code
def yX0_plays : MethodName := ⟨RX0, "plays", "(LLoseLeague$League;I)I"⟩
def dkwX0_plays_1 : List UInt8 := [182, 0, 13, 172]
abbrev dktX0_plays_1 : List UInt8 := dkwX0_plays_1 ++ []
def dkwX0_plays_0 : List UInt8 := [42, 180, 0, 1, 43, 28, 3, 182, 0, 7, 50, 43, 28, 4, 182, 0, 7, 43, 28, 5, 182, 0, 7]
abbrev dktX0_plays_0 : List UInt8 := dkwX0_plays_0 ++ dktX0_plays_1
theorem dksX0_plays_0 : cX0_plays.data.toList.drop 0 = dktX0_plays_0 := by decide +kernel
theorem dksX0_plays_1 : cX0_plays.data.toList.drop 23 = dktX0_plays_1 := dk_seg dksX0_plays_0 23 rfl rfl
theorem dX0_plays_0 : decode cX0_plays 0 = .ok (.aload_n 0, 1) := dk_42 (dk_at dksX0_plays_0 0 rfl rfl)
theorem dX0_plays_1 : decode cX0_plays 1 = .ok (.getfield 1, 3) := dk_180 0 1 (dk_at dksX0_plays_0 1 rfl rfl)
theorem dX0_plays_4 : decode cX0_plays 4 = .ok (.aload_n 1, 1) := dk_43 (dk_at dksX0_plays_0 4 rfl rfl)
theorem dX0_plays_5 : decode cX0_plays 5 = .ok (.iload_n 2, 1) := dk_28 (dk_at dksX0_plays_0 5 rfl rfl)
theorem dX0_plays_6 : decode cX0_plays 6 = .ok (.iconst 0, 1) := dk_3 (dk_at dksX0_plays_0 6 rfl rfl)
theorem dX0_plays_7 : decode cX0_plays 7 = .ok (.invokevirtual 7, 3) := dk_182 0 7 (dk_at dksX0_plays_0 7 rfl rfl)
theorem dX0_plays_10 : decode cX0_plays 10 = .ok (.aaload, 1) := dk_50 (dk_at dksX0_plays_0 10 rfl rfl)
theorem dX0_plays_11 : decode cX0_plays 11 = .ok (.aload_n 1, 1) := dk_43 (dk_at dksX0_plays_0 11 rfl rfl)
theorem dX0_plays_12 : decode cX0_plays 12 = .ok (.iload_n 2, 1) := dk_28 (dk_at dksX0_plays_0 12 rfl rfl)
theorem dX0_plays_13 : decode cX0_plays 13 = .ok (.iconst 1, 1) := dk_4 (dk_at dksX0_plays_0 13 rfl rfl)
theorem dX0_plays_14 : decode cX0_plays 14 = .ok (.invokevirtual 7, 3) := dk_182 0 7 (dk_at dksX0_plays_0 14 rfl rfl)
theorem dX0_plays_17 : decode cX0_plays 17 = .ok (.aload_n 1, 1) := dk_43 (dk_at dksX0_plays_0 17 rfl rfl)
theorem dX0_plays_18 : decode cX0_plays 18 = .ok (.iload_n 2, 1) := dk_28 (dk_at dksX0_plays_0 18 rfl rfl)
theorem dX0_plays_19 : decode cX0_plays 19 = .ok (.iconst 2, 1) := dk_5 (dk_at dksX0_plays_0 19 rfl rfl)
theorem dX0_plays_20 : decode cX0_plays 20 = .ok (.invokevirtual 7, 3) := dk_182 0 7 (dk_at dksX0_plays_0 20 rfl rfl)
theorem dX0_plays_23 : decode cX0_plays 23 = .ok (.invokevirtual 13, 3) := dk_182 0 13 (dk_at dksX0_plays_1 0 rfl rfl)
theorem dX0_plays_26 : decode cX0_plays 26 = .ok (.ireturn, 1) := dk_172 (dk_at dksX0_plays_1 3 rfl rfl)
abbrev cX0_fixture : ByteArray := prog_1_method_22_code
def yX0_fixture : MethodName := ⟨RX0, "fixture", "(II)I"⟩
def dkwX0_fixture_1 : List UInt8 := [153, 0, 19, 42, 180, 0, 109, 180, 0, 62, 5, 27, 104, 28, 96, 51, 167, 0, 4, 2, 172]
abbrev dktX0_fixture_1 : List UInt8 := dkwX0_fixture_1 ++ []
def dkwX0_fixture_0 : List UInt8 := [27, 133, 9, 42, 180, 0, 109, 180, 0, 46, 4, 100, 133, 184, 0, 144, 153, 0, 26, 28, 184, 0, 196]
abbrev dktX0_fixture_0 : List UInt8 := dkwX0_fixture_0 ++ dktX0_fixture_1
theorem dksX0_fixture_0 : cX0_fixture.data.toList.drop 0 = dktX0_fixture_0 := by decide +kernel
theorem dksX0_fixture_1 : cX0_fixture.data.toList.drop 23 = dktX0_fixture_1 := dk_seg dksX0_fixture_0 23 rfl rfl
theorem dX0_fixture_0 : decode cX0_fixture 0 = .ok (.iload_n 1, 1) := dk_27 (dk_at dksX0_fixture_0 0 rfl rfl)
theorem dX0_fixture_1 : decode cX0_fixture 1 = .ok (.i2l, 1) := dk_133 (dk_at dksX0_fixture_0 1 rfl rfl)
theorem dX0_fixture_2 : decode cX0_fixture 2 = .ok (.lconst 0, 1) := dk_9 (dk_at dksX0_fixture_0 2 rfl rfl)
theorem dX0_fixture_3 : decode cX0_fixture 3 = .ok (.aload_n 0, 1) := dk_42 (dk_at dksX0_fixture_0 3 rfl rfl)
theorem dX0_fixture_4 : decode cX0_fixture 4 = .ok (.getfield 109, 3) := dk_180 0 109 (dk_at dksX0_fixture_0 4 rfl rfl)
theorem dX0_fixture_7 : decode cX0_fixture 7 = .ok (.getfield 46, 3) := dk_180 0 46 (dk_at dksX0_fixture_0 7 rfl rfl)
theorem dX0_fixture_10 : decode cX0_fixture 10 = .ok (.iconst 1, 1) := dk_4 (dk_at dksX0_fixture_0 10 rfl rfl)
theorem dX0_fixture_11 : decode cX0_fixture 11 = .ok (.isub, 1) := dk_100 (dk_at dksX0_fixture_0 11 rfl rfl)
theorem dX0_fixture_12 : decode cX0_fixture 12 = .ok (.i2l, 1) := dk_133 (dk_at dksX0_fixture_0 12 rfl rfl)
theorem dX0_fixture_13 : decode cX0_fixture 13 = .ok (.invokestatic 144, 3) := dk_184 0 144 (dk_at dksX0_fixture_0 13 rfl rfl)
theorem dX0_fixture_16 : decode cX0_fixture 16 = .ok (.ifCond .eq 26, 3) := dk_153 0 26 (dk_at dksX0_fixture_0 16 rfl rfl)
theorem dX0_fixture_19 : decode cX0_fixture 19 = .ok (.iload_n 2, 1) := dk_28 (dk_at dksX0_fixture_0 19 rfl rfl)
theorem dX0_fixture_20 : decode cX0_fixture 20 = .ok (.invokestatic 196, 3) := dk_184 0 196 (dk_at dksX0_fixture_0 20 rfl rfl)
theorem dX0_fixture_23 : decode cX0_fixture 23 = .ok (.ifCond .eq 19, 3) := dk_153 0 19 (dk_at dksX0_fixture_1 0 rfl rfl)
theorem dX0_fixture_26 : decode cX0_fixture 26 = .ok (.aload_n 0, 1) := dk_42 (dk_at dksX0_fixture_1 3 rfl rfl)
theorem dX0_fixture_27 : decode cX0_fixture 27 = .ok (.getfield 109, 3) := dk_180 0 109 (dk_at dksX0_fixture_1 4 rfl rfl)
theorem dX0_fixture_30 : decode cX0_fixture 30 = .ok (.getfield 62, 3) := dk_180 0 62 (dk_at dksX0_fixture_1 7 rfl rfl)
theorem dX0_fixture_33 : decode cX0_fixture 33 = .ok (.iconst 2, 1) := dk_5 (dk_at dksX0_fixture_1 10 rfl rfl)
theorem dX0_fixture_34 : decode cX0_fixture 34 = .ok (.iload_n 1, 1) := dk_27 (dk_at dksX0_fixture_1 11 rfl rfl)
theorem dX0_fixture_35 : decode cX0_fixture 35 = .ok (.imul, 1) := dk_104 (dk_at dksX0_fixture_1 12 rfl rfl)
theorem dX0_fixture_36 : decode cX0_fixture 36 = .ok (.iload_n 2, 1) := dk_28 (dk_at dksX0_fixture_1 13 rfl rfl)
theorem dX0_fixture_37 : decode cX0_fixture 37 = .ok (.iadd, 1) := dk_96 (dk_at dksX0_fixture_1 14 rfl rfl)
theorem dX0_fixture_38 : decode cX0_fixture 38 = .ok (.baload, 1) := dk_51 (dk_at dksX0_fixture_1 15 rfl rfl)
theorem dX0_fixture_39 : decode cX0_fixture 39 = .ok (.goto 4, 3) := dk_167 0 4 (dk_at dksX0_fixture_1 16 rfl rfl)
theorem dX0_fixture_42 : decode cX0_fixture 42 = .ok (.iconst (-1), 1) := dk_2 (dk_at dksX0_fixture_1 19 rfl rfl)
theorem dX0_fixture_43 : decode cX0_fixture 43 = .ok (.ireturn, 1) := dk_172 (dk_at dksX0_fixture_1 20 rfl rfl)
abbrev cX0_isPart : ByteArray := prog_1_method_18_code
def yX0_isPart : MethodName := ⟨RX0, "isPart", "(I)Z"⟩
def dkwX0_isPart_0 : List UInt8 := [26, 133, 9, 10, 184, 0, 144, 172]
abbrev dktX0_isPart_0 : List UInt8 := dkwX0_isPart_0 ++ []
theorem dksX0_isPart_0 : cX0_isPart.data.toList.drop 0 = dktX0_isPart_0 := by decide +kernel
theorem dX0_isPart_0 : decode cX0_isPart 0 = .ok (.iload_n 0, 1) := dk_26 (dk_at dksX0_isPart_0 0 rfl rfl)
theorem dX0_isPart_1 : decode cX0_isPart 1 = .ok (.i2l, 1) := dk_133 (dk_at dksX0_isPart_0 1 rfl rfl)
theorem dX0_isPart_2 : decode cX0_isPart 2 = .ok (.lconst 0, 1) := dk_9 (dk_at dksX0_isPart_0 2 rfl rfl)
theorem dX0_isPart_3 : decode cX0_isPart 3 = .ok (.lconst 1, 1) := dk_10 (dk_at dksX0_isPart_0 3 rfl rfl)
theorem dX0_isPart_4 : decode cX0_isPart 4 = .ok (.invokestatic 144, 3) := dk_184 0 144 (dk_at dksX0_isPart_0 4 rfl rfl)
theorem dX0_isPart_7 : decode cX0_isPart 7 = .ok (.ireturn, 1) := dk_172 (dk_at dksX0_isPart_0 7 rfl rfl)
abbrev cX0_game : ByteArray := prog_1_method_23_code
def yX0_game : MethodName := ⟨RX0, "game", "(II)I"⟩
def dkwX0_game_0 : List UInt8 := [42, 27, 28, 182, 0, 199, 153, 0, 16, 42, 42, 180, 0, 109, 27, 28, 182, 0, 34, 167, 0, 4, 2, 172]
abbrev dktX0_game_0 : List UInt8 := dkwX0_game_0 ++ []
theorem dksX0_game_0 : cX0_game.data.toList.drop 0 = dktX0_game_0 := by decide +kernel
theorem dX0_game_0 : decode cX0_game 0 = .ok (.aload_n 0, 1) := dk_42 (dk_at dksX0_game_0 0 rfl rfl)
theorem dX0_game_1 : decode cX0_game 1 = .ok (.iload_n 1, 1) := dk_27 (dk_at dksX0_game_0 1 rfl rfl)
theorem dX0_game_2 : decode cX0_game 2 = .ok (.iload_n 2, 1) := dk_28 (dk_at dksX0_game_0 2 rfl rfl)
theorem dX0_game_3 : decode cX0_game 3 = .ok (.invokevirtual 199, 3) := dk_182 0 199 (dk_at dksX0_game_0 3 rfl rfl)
theorem dX0_game_6 : decode cX0_game 6 = .ok (.ifCond .eq 16, 3) := dk_153 0 16 (dk_at dksX0_game_0 6 rfl rfl)
theorem dX0_game_9 : decode cX0_game 9 = .ok (.aload_n 0, 1) := dk_42 (dk_at dksX0_game_0 9 rfl rfl)
theorem dX0_game_10 : decode cX0_game 10 = .ok (.aload_n 0, 1) := dk_42 (dk_at dksX0_game_0 10 rfl rfl)
theorem dX0_game_11 : decode cX0_game 11 = .ok (.getfield 109, 3) := dk_180 0 109 (dk_at dksX0_game_0 11 rfl rfl)
theorem dX0_game_14 : decode cX0_game 14 = .ok (.iload_n 1, 1) := dk_27 (dk_at dksX0_game_0 14 rfl rfl)
theorem dX0_game_15 : decode cX0_game 15 = .ok (.iload_n 2, 1) := dk_28 (dk_at dksX0_game_0 15 rfl rfl)
theorem dX0_game_16 : decode cX0_game 16 = .ok (.invokevirtual 34, 3) := dk_182 0 34 (dk_at dksX0_game_0 16 rfl rfl)
theorem dX0_game_19 : decode cX0_game 19 = .ok (.goto 4, 3) := dk_167 0 4 (dk_at dksX0_game_0 19 rfl rfl)
theorem dX0_game_22 : decode cX0_game 22 = .ok (.iconst (-1), 1) := dk_2 (dk_at dksX0_game_0 22 rfl rfl)
theorem dX0_game_23 : decode cX0_game 23 = .ok (.ireturn, 1) := dk_172 (dk_at dksX0_game_0 23 rfl rfl)
abbrev cX0_areTwo : ByteArray := prog_1_method_17_code
def yX0_areTwo : MethodName := ⟨RX0, "areTwo", "(II)Z"⟩
def dkwX0_areTwo_1 : List UInt8 := [167, 0, 4, 3, 172]
abbrev dktX0_areTwo_1 : List UInt8 := dkwX0_areTwo_1 ++ []
def dkwX0_areTwo_0 : List UInt8 := [42, 27, 182, 0, 185, 153, 0, 20, 42, 28, 182, 0, 185, 153, 0, 12, 27, 28, 159, 0, 7, 4]
abbrev dktX0_areTwo_0 : List UInt8 := dkwX0_areTwo_0 ++ dktX0_areTwo_1
theorem dksX0_areTwo_0 : cX0_areTwo.data.toList.drop 0 = dktX0_areTwo_0 := by decide +kernel
theorem dksX0_areTwo_1 : cX0_areTwo.data.toList.drop 22 = dktX0_areTwo_1 := dk_seg dksX0_areTwo_0 22 rfl rfl
theorem dX0_areTwo_0 : decode cX0_areTwo 0 = .ok (.aload_n 0, 1) := dk_42 (dk_at dksX0_areTwo_0 0 rfl rfl)
theorem dX0_areTwo_1 : decode cX0_areTwo 1 = .ok (.iload_n 1, 1) := dk_27 (dk_at dksX0_areTwo_0 1 rfl rfl)
theorem dX0_areTwo_2 : decode cX0_areTwo 2 = .ok (.invokevirtual 185, 3) := dk_182 0 185 (dk_at dksX0_areTwo_0 2 rfl rfl)
theorem dX0_areTwo_5 : decode cX0_areTwo 5 = .ok (.ifCond .eq 20, 3) := dk_153 0 20 (dk_at dksX0_areTwo_0 5 rfl rfl)
theorem dX0_areTwo_8 : decode cX0_areTwo 8 = .ok (.aload_n 0, 1) := dk_42 (dk_at dksX0_areTwo_0 8 rfl rfl)
theorem dX0_areTwo_9 : decode cX0_areTwo 9 = .ok (.iload_n 2, 1) := dk_28 (dk_at dksX0_areTwo_0 9 rfl rfl)
theorem dX0_areTwo_10 : decode cX0_areTwo 10 = .ok (.invokevirtual 185, 3) := dk_182 0 185 (dk_at dksX0_areTwo_0 10 rfl rfl)
theorem dX0_areTwo_13 : decode cX0_areTwo 13 = .ok (.ifCond .eq 12, 3) := dk_153 0 12 (dk_at dksX0_areTwo_0 13 rfl rfl)
theorem dX0_areTwo_16 : decode cX0_areTwo 16 = .ok (.iload_n 1, 1) := dk_27 (dk_at dksX0_areTwo_0 16 rfl rfl)
theorem dX0_areTwo_17 : decode cX0_areTwo 17 = .ok (.iload_n 2, 1) := dk_28 (dk_at dksX0_areTwo_0 17 rfl rfl)
theorem dX0_areTwo_18 : decode cX0_areTwo 18 = .ok (.if_icmp .eq 7, 3) := dk_159 0 7 (dk_at dksX0_areTwo_0 18 rfl rfl)
theorem dX0_areTwo_21 : decode cX0_areTwo 21 = .ok (.iconst 1, 1) := dk_4 (dk_at dksX0_areTwo_0 21 rfl rfl)
theorem dX0_areTwo_22 : decode cX0_areTwo 22 = .ok (.goto 4, 3) := dk_167 0 4 (dk_at dksX0_areTwo_1 0 rfl rfl)
theorem dX0_areTwo_25 : decode cX0_areTwo 25 = .ok (.iconst 0, 1) := dk_3 (dk_at dksX0_areTwo_1 3 rfl rfl)
theorem dX0_areTwo_26 : decode cX0_areTwo 26 = .ok (.ireturn, 1) := dk_172 (dk_at dksX0_areTwo_1 4 rfl rfl)
abbrev cX0_loserOf : ByteArray := prog_1_method_4_code
def yX0_loserOf : MethodName := ⟨RX0, "loserOf", "(LLoseLeague$League;II)I"⟩
def dkwX0_loserOf_1 : List UInt8 := [167, 0, 13, 21, 4, 156, 0, 7, 28, 167, 0, 4, 29, 172]
abbrev dktX0_loserOf_1 : List UInt8 := dkwX0_loserOf_1 ++ []
def dkwX0_loserOf_0 : List UInt8 := [42, 43, 28, 182, 0, 18, 42, 43, 29, 182, 0, 18, 100, 54, 4, 21, 4, 154, 0, 8, 16, 252]
abbrev dktX0_loserOf_0 : List UInt8 := dkwX0_loserOf_0 ++ dktX0_loserOf_1
theorem dksX0_loserOf_0 : cX0_loserOf.data.toList.drop 0 = dktX0_loserOf_0 := by decide +kernel
theorem dksX0_loserOf_1 : cX0_loserOf.data.toList.drop 22 = dktX0_loserOf_1 := dk_seg dksX0_loserOf_0 22 rfl rfl
theorem dX0_loserOf_0 : decode cX0_loserOf 0 = .ok (.aload_n 0, 1) := dk_42 (dk_at dksX0_loserOf_0 0 rfl rfl)
theorem dX0_loserOf_1 : decode cX0_loserOf 1 = .ok (.aload_n 1, 1) := dk_43 (dk_at dksX0_loserOf_0 1 rfl rfl)
theorem dX0_loserOf_2 : decode cX0_loserOf 2 = .ok (.iload_n 2, 1) := dk_28 (dk_at dksX0_loserOf_0 2 rfl rfl)
theorem dX0_loserOf_3 : decode cX0_loserOf 3 = .ok (.invokevirtual 18, 3) := dk_182 0 18 (dk_at dksX0_loserOf_0 3 rfl rfl)
theorem dX0_loserOf_6 : decode cX0_loserOf 6 = .ok (.aload_n 0, 1) := dk_42 (dk_at dksX0_loserOf_0 6 rfl rfl)
theorem dX0_loserOf_7 : decode cX0_loserOf 7 = .ok (.aload_n 1, 1) := dk_43 (dk_at dksX0_loserOf_0 7 rfl rfl)
theorem dX0_loserOf_8 : decode cX0_loserOf 8 = .ok (.iload_n 3, 1) := dk_29 (dk_at dksX0_loserOf_0 8 rfl rfl)
theorem dX0_loserOf_9 : decode cX0_loserOf 9 = .ok (.invokevirtual 18, 3) := dk_182 0 18 (dk_at dksX0_loserOf_0 9 rfl rfl)
theorem dX0_loserOf_12 : decode cX0_loserOf 12 = .ok (.isub, 1) := dk_100 (dk_at dksX0_loserOf_0 12 rfl rfl)
theorem dX0_loserOf_13 : decode cX0_loserOf 13 = .ok (.istore 4, 2) := dk_54 4 (dk_at dksX0_loserOf_0 13 rfl rfl)
theorem dX0_loserOf_15 : decode cX0_loserOf 15 = .ok (.iload 4, 2) := dk_21 4 (dk_at dksX0_loserOf_0 15 rfl rfl)
theorem dX0_loserOf_17 : decode cX0_loserOf 17 = .ok (.ifCond .ne 8, 3) := dk_154 0 8 (dk_at dksX0_loserOf_0 17 rfl rfl)
theorem dX0_loserOf_20 : decode cX0_loserOf 20 = .ok (.bipush (-4), 2) := dk_16 252 (dk_at dksX0_loserOf_0 20 rfl rfl)
theorem dX0_loserOf_22 : decode cX0_loserOf 22 = .ok (.goto 13, 3) := dk_167 0 13 (dk_at dksX0_loserOf_1 0 rfl rfl)
theorem dX0_loserOf_25 : decode cX0_loserOf 25 = .ok (.iload 4, 2) := dk_21 4 (dk_at dksX0_loserOf_1 3 rfl rfl)
theorem dX0_loserOf_27 : decode cX0_loserOf 27 = .ok (.ifCond .ge 7, 3) := dk_156 0 7 (dk_at dksX0_loserOf_1 5 rfl rfl)
theorem dX0_loserOf_30 : decode cX0_loserOf 30 = .ok (.iload_n 2, 1) := dk_28 (dk_at dksX0_loserOf_1 8 rfl rfl)
theorem dX0_loserOf_31 : decode cX0_loserOf 31 = .ok (.goto 4, 3) := dk_167 0 4 (dk_at dksX0_loserOf_1 9 rfl rfl)
theorem dX0_loserOf_34 : decode cX0_loserOf 34 = .ok (.iload_n 3, 1) := dk_29 (dk_at dksX0_loserOf_1 12 rfl rfl)
theorem dX0_loserOf_35 : decode cX0_loserOf 35 = .ok (.ireturn, 1) := dk_172 (dk_at dksX0_loserOf_1 13 rfl rfl)
abbrev cX0_alter : ByteArray := prog_1_method_24_code
def yX0_alter : MethodName := ⟨RX0, "alter", "(III)I"⟩
def dkwX0_alter_3 : List UInt8 := [28, 29, 182, 0, 205, 21, 5, 172]
abbrev dktX0_alter_3 : List UInt8 := dkwX0_alter_3 ++ []
def dkwX0_alter_2 : List UInt8 := [184, 0, 144, 154, 0, 5, 2, 172, 42, 180, 0, 109, 27, 28, 182, 0, 7, 54, 5, 42, 180, 0, 109, 27]
abbrev dktX0_alter_2 : List UInt8 := dkwX0_alter_2 ++ dktX0_alter_3
def dkwX0_alter_1 : List UInt8 := [182, 0, 185, 153, 0, 27, 28, 133, 9, 20, 0, 203, 184, 0, 144, 153, 0, 15, 29, 133, 9, 21, 4, 133]
abbrev dktX0_alter_1 : List UInt8 := dkwX0_alter_1 ++ dktX0_alter_2
def dkwX0_alter_0 : List UInt8 := [28, 154, 0, 7, 6, 167, 0, 15, 28, 4, 160, 0, 8, 16, 20, 167, 0, 5, 16, 99, 54, 4, 42, 27]
abbrev dktX0_alter_0 : List UInt8 := dkwX0_alter_0 ++ dktX0_alter_1
theorem dksX0_alter_0 : cX0_alter.data.toList.drop 0 = dktX0_alter_0 := by decide +kernel
theorem dksX0_alter_1 : cX0_alter.data.toList.drop 24 = dktX0_alter_1 := dk_seg dksX0_alter_0 24 rfl rfl
theorem dksX0_alter_2 : cX0_alter.data.toList.drop 48 = dktX0_alter_2 := dk_seg dksX0_alter_1 24 rfl rfl
theorem dksX0_alter_3 : cX0_alter.data.toList.drop 72 = dktX0_alter_3 := dk_seg dksX0_alter_2 24 rfl rfl
theorem dX0_alter_0 : decode cX0_alter 0 = .ok (.iload_n 2, 1) := dk_28 (dk_at dksX0_alter_0 0 rfl rfl)
theorem dX0_alter_1 : decode cX0_alter 1 = .ok (.ifCond .ne 7, 3) := dk_154 0 7 (dk_at dksX0_alter_0 1 rfl rfl)
theorem dX0_alter_4 : decode cX0_alter 4 = .ok (.iconst 3, 1) := dk_6 (dk_at dksX0_alter_0 4 rfl rfl)
theorem dX0_alter_5 : decode cX0_alter 5 = .ok (.goto 15, 3) := dk_167 0 15 (dk_at dksX0_alter_0 5 rfl rfl)
theorem dX0_alter_8 : decode cX0_alter 8 = .ok (.iload_n 2, 1) := dk_28 (dk_at dksX0_alter_0 8 rfl rfl)
theorem dX0_alter_9 : decode cX0_alter 9 = .ok (.iconst 1, 1) := dk_4 (dk_at dksX0_alter_0 9 rfl rfl)
theorem dX0_alter_10 : decode cX0_alter 10 = .ok (.if_icmp .ne 8, 3) := dk_160 0 8 (dk_at dksX0_alter_0 10 rfl rfl)
theorem dX0_alter_13 : decode cX0_alter 13 = .ok (.bipush 20, 2) := dk_16 20 (dk_at dksX0_alter_0 13 rfl rfl)
theorem dX0_alter_15 : decode cX0_alter 15 = .ok (.goto 5, 3) := dk_167 0 5 (dk_at dksX0_alter_0 15 rfl rfl)
theorem dX0_alter_18 : decode cX0_alter 18 = .ok (.bipush 99, 2) := dk_16 99 (dk_at dksX0_alter_0 18 rfl rfl)
theorem dX0_alter_20 : decode cX0_alter 20 = .ok (.istore 4, 2) := dk_54 4 (dk_at dksX0_alter_0 20 rfl rfl)
theorem dX0_alter_22 : decode cX0_alter 22 = .ok (.aload_n 0, 1) := dk_42 (dk_at dksX0_alter_0 22 rfl rfl)
theorem dX0_alter_23 : decode cX0_alter 23 = .ok (.iload_n 1, 1) := dk_27 (dk_at dksX0_alter_0 23 rfl rfl)
theorem dX0_alter_24 : decode cX0_alter 24 = .ok (.invokevirtual 185, 3) := dk_182 0 185 (dk_at dksX0_alter_1 0 rfl rfl)
theorem dX0_alter_27 : decode cX0_alter 27 = .ok (.ifCond .eq 27, 3) := dk_153 0 27 (dk_at dksX0_alter_1 3 rfl rfl)
theorem dX0_alter_30 : decode cX0_alter 30 = .ok (.iload_n 2, 1) := dk_28 (dk_at dksX0_alter_1 6 rfl rfl)
theorem dX0_alter_31 : decode cX0_alter 31 = .ok (.i2l, 1) := dk_133 (dk_at dksX0_alter_1 7 rfl rfl)
theorem dX0_alter_32 : decode cX0_alter 32 = .ok (.lconst 0, 1) := dk_9 (dk_at dksX0_alter_1 8 rfl rfl)
theorem dX0_alter_33 : decode cX0_alter 33 = .ok (.ldc2_w 203, 3) := dk_20 0 203 (dk_at dksX0_alter_1 9 rfl rfl)
theorem dX0_alter_36 : decode cX0_alter 36 = .ok (.invokestatic 144, 3) := dk_184 0 144 (dk_at dksX0_alter_1 12 rfl rfl)
theorem dX0_alter_39 : decode cX0_alter 39 = .ok (.ifCond .eq 15, 3) := dk_153 0 15 (dk_at dksX0_alter_1 15 rfl rfl)
theorem dX0_alter_42 : decode cX0_alter 42 = .ok (.iload_n 3, 1) := dk_29 (dk_at dksX0_alter_1 18 rfl rfl)
theorem dX0_alter_43 : decode cX0_alter 43 = .ok (.i2l, 1) := dk_133 (dk_at dksX0_alter_1 19 rfl rfl)
theorem dX0_alter_44 : decode cX0_alter 44 = .ok (.lconst 0, 1) := dk_9 (dk_at dksX0_alter_1 20 rfl rfl)
theorem dX0_alter_45 : decode cX0_alter 45 = .ok (.iload 4, 2) := dk_21 4 (dk_at dksX0_alter_1 21 rfl rfl)
theorem dX0_alter_47 : decode cX0_alter 47 = .ok (.i2l, 1) := dk_133 (dk_at dksX0_alter_1 23 rfl rfl)
theorem dX0_alter_48 : decode cX0_alter 48 = .ok (.invokestatic 144, 3) := dk_184 0 144 (dk_at dksX0_alter_2 0 rfl rfl)
theorem dX0_alter_51 : decode cX0_alter 51 = .ok (.ifCond .ne 5, 3) := dk_154 0 5 (dk_at dksX0_alter_2 3 rfl rfl)
theorem dX0_alter_54 : decode cX0_alter 54 = .ok (.iconst (-1), 1) := dk_2 (dk_at dksX0_alter_2 6 rfl rfl)
theorem dX0_alter_55 : decode cX0_alter 55 = .ok (.ireturn, 1) := dk_172 (dk_at dksX0_alter_2 7 rfl rfl)
theorem dX0_alter_56 : decode cX0_alter 56 = .ok (.aload_n 0, 1) := dk_42 (dk_at dksX0_alter_2 8 rfl rfl)
theorem dX0_alter_57 : decode cX0_alter 57 = .ok (.getfield 109, 3) := dk_180 0 109 (dk_at dksX0_alter_2 9 rfl rfl)
theorem dX0_alter_60 : decode cX0_alter 60 = .ok (.iload_n 1, 1) := dk_27 (dk_at dksX0_alter_2 12 rfl rfl)
theorem dX0_alter_61 : decode cX0_alter 61 = .ok (.iload_n 2, 1) := dk_28 (dk_at dksX0_alter_2 13 rfl rfl)
theorem dX0_alter_62 : decode cX0_alter 62 = .ok (.invokevirtual 7, 3) := dk_182 0 7 (dk_at dksX0_alter_2 14 rfl rfl)
theorem dX0_alter_65 : decode cX0_alter 65 = .ok (.istore 5, 2) := dk_54 5 (dk_at dksX0_alter_2 17 rfl rfl)
theorem dX0_alter_67 : decode cX0_alter 67 = .ok (.aload_n 0, 1) := dk_42 (dk_at dksX0_alter_2 19 rfl rfl)
theorem dX0_alter_68 : decode cX0_alter 68 = .ok (.getfield 109, 3) := dk_180 0 109 (dk_at dksX0_alter_2 20 rfl rfl)
theorem dX0_alter_71 : decode cX0_alter 71 = .ok (.iload_n 1, 1) := dk_27 (dk_at dksX0_alter_2 23 rfl rfl)
theorem dX0_alter_72 : decode cX0_alter 72 = .ok (.iload_n 2, 1) := dk_28 (dk_at dksX0_alter_3 0 rfl rfl)
theorem dX0_alter_73 : decode cX0_alter 73 = .ok (.iload_n 3, 1) := dk_29 (dk_at dksX0_alter_3 1 rfl rfl)
theorem dX0_alter_74 : decode cX0_alter 74 = .ok (.invokevirtual 205, 3) := dk_182 0 205 (dk_at dksX0_alter_3 2 rfl rfl)
theorem dX0_alter_77 : decode cX0_alter 77 = .ok (.iload 5, 2) := dk_21 5 (dk_at dksX0_alter_3 5 rfl rfl)
theorem dX0_alter_79 : decode cX0_alter 79 = .ok (.ireturn, 1) := dk_172 (dk_at dksX0_alter_3 7 rfl rfl)
abbrev cX0_lend : ByteArray := prog_1_method_27_code
def yX0_lend : MethodName := ⟨RX0, "lend", "(III)I"⟩
def dkwX0_lend_2 : List UInt8 := [184, 0, 215, 42, 180, 0, 109, 27, 4, 182, 0, 7, 172]
abbrev dktX0_lend_2 : List UInt8 := dkwX0_lend_2 ++ []
def dkwX0_lend_1 : List UInt8 := [27, 28, 29, 182, 0, 211, 54, 4, 21, 4, 156, 0, 6, 21, 4, 172, 42, 180, 0, 109, 27, 28, 29]
abbrev dktX0_lend_1 : List UInt8 := dkwX0_lend_1 ++ dktX0_lend_2
def dkwX0_lend_0 : List UInt8 := [42, 27, 28, 182, 0, 199, 153, 0, 15, 29, 133, 9, 20, 0, 209, 184, 0, 144, 154, 0, 5, 2, 172, 42]
abbrev dktX0_lend_0 : List UInt8 := dkwX0_lend_0 ++ dktX0_lend_1
theorem dksX0_lend_0 : cX0_lend.data.toList.drop 0 = dktX0_lend_0 := by decide +kernel
theorem dksX0_lend_1 : cX0_lend.data.toList.drop 24 = dktX0_lend_1 := dk_seg dksX0_lend_0 24 rfl rfl
theorem dksX0_lend_2 : cX0_lend.data.toList.drop 47 = dktX0_lend_2 := dk_seg dksX0_lend_1 23 rfl rfl
theorem dX0_lend_0 : decode cX0_lend 0 = .ok (.aload_n 0, 1) := dk_42 (dk_at dksX0_lend_0 0 rfl rfl)
theorem dX0_lend_1 : decode cX0_lend 1 = .ok (.iload_n 1, 1) := dk_27 (dk_at dksX0_lend_0 1 rfl rfl)
theorem dX0_lend_2 : decode cX0_lend 2 = .ok (.iload_n 2, 1) := dk_28 (dk_at dksX0_lend_0 2 rfl rfl)
theorem dX0_lend_3 : decode cX0_lend 3 = .ok (.invokevirtual 199, 3) := dk_182 0 199 (dk_at dksX0_lend_0 3 rfl rfl)
theorem dX0_lend_6 : decode cX0_lend 6 = .ok (.ifCond .eq 15, 3) := dk_153 0 15 (dk_at dksX0_lend_0 6 rfl rfl)
theorem dX0_lend_9 : decode cX0_lend 9 = .ok (.iload_n 3, 1) := dk_29 (dk_at dksX0_lend_0 9 rfl rfl)
theorem dX0_lend_10 : decode cX0_lend 10 = .ok (.i2l, 1) := dk_133 (dk_at dksX0_lend_0 10 rfl rfl)
theorem dX0_lend_11 : decode cX0_lend 11 = .ok (.lconst 0, 1) := dk_9 (dk_at dksX0_lend_0 11 rfl rfl)
theorem dX0_lend_12 : decode cX0_lend 12 = .ok (.ldc2_w 209, 3) := dk_20 0 209 (dk_at dksX0_lend_0 12 rfl rfl)
theorem dX0_lend_15 : decode cX0_lend 15 = .ok (.invokestatic 144, 3) := dk_184 0 144 (dk_at dksX0_lend_0 15 rfl rfl)
theorem dX0_lend_18 : decode cX0_lend 18 = .ok (.ifCond .ne 5, 3) := dk_154 0 5 (dk_at dksX0_lend_0 18 rfl rfl)
theorem dX0_lend_21 : decode cX0_lend 21 = .ok (.iconst (-1), 1) := dk_2 (dk_at dksX0_lend_0 21 rfl rfl)
theorem dX0_lend_22 : decode cX0_lend 22 = .ok (.ireturn, 1) := dk_172 (dk_at dksX0_lend_0 22 rfl rfl)
theorem dX0_lend_23 : decode cX0_lend 23 = .ok (.aload_n 0, 1) := dk_42 (dk_at dksX0_lend_0 23 rfl rfl)
theorem dX0_lend_24 : decode cX0_lend 24 = .ok (.iload_n 1, 1) := dk_27 (dk_at dksX0_lend_1 0 rfl rfl)
theorem dX0_lend_25 : decode cX0_lend 25 = .ok (.iload_n 2, 1) := dk_28 (dk_at dksX0_lend_1 1 rfl rfl)
theorem dX0_lend_26 : decode cX0_lend 26 = .ok (.iload_n 3, 1) := dk_29 (dk_at dksX0_lend_1 2 rfl rfl)
theorem dX0_lend_27 : decode cX0_lend 27 = .ok (.invokevirtual 211, 3) := dk_182 0 211 (dk_at dksX0_lend_1 3 rfl rfl)
theorem dX0_lend_30 : decode cX0_lend 30 = .ok (.istore 4, 2) := dk_54 4 (dk_at dksX0_lend_1 6 rfl rfl)
theorem dX0_lend_32 : decode cX0_lend 32 = .ok (.iload 4, 2) := dk_21 4 (dk_at dksX0_lend_1 8 rfl rfl)
theorem dX0_lend_34 : decode cX0_lend 34 = .ok (.ifCond .ge 6, 3) := dk_156 0 6 (dk_at dksX0_lend_1 10 rfl rfl)
theorem dX0_lend_37 : decode cX0_lend 37 = .ok (.iload 4, 2) := dk_21 4 (dk_at dksX0_lend_1 13 rfl rfl)
theorem dX0_lend_39 : decode cX0_lend 39 = .ok (.ireturn, 1) := dk_172 (dk_at dksX0_lend_1 15 rfl rfl)
theorem dX0_lend_40 : decode cX0_lend 40 = .ok (.aload_n 0, 1) := dk_42 (dk_at dksX0_lend_1 16 rfl rfl)
theorem dX0_lend_41 : decode cX0_lend 41 = .ok (.getfield 109, 3) := dk_180 0 109 (dk_at dksX0_lend_1 17 rfl rfl)
theorem dX0_lend_44 : decode cX0_lend 44 = .ok (.iload_n 1, 1) := dk_27 (dk_at dksX0_lend_1 20 rfl rfl)
theorem dX0_lend_45 : decode cX0_lend 45 = .ok (.iload_n 2, 1) := dk_28 (dk_at dksX0_lend_1 21 rfl rfl)
theorem dX0_lend_46 : decode cX0_lend 46 = .ok (.iload_n 3, 1) := dk_29 (dk_at dksX0_lend_1 22 rfl rfl)
theorem dX0_lend_47 : decode cX0_lend 47 = .ok (.invokestatic 215, 3) := dk_184 0 215 (dk_at dksX0_lend_2 0 rfl rfl)
theorem dX0_lend_50 : decode cX0_lend 50 = .ok (.aload_n 0, 1) := dk_42 (dk_at dksX0_lend_2 3 rfl rfl)
theorem dX0_lend_51 : decode cX0_lend 51 = .ok (.getfield 109, 3) := dk_180 0 109 (dk_at dksX0_lend_2 4 rfl rfl)
theorem dX0_lend_54 : decode cX0_lend 54 = .ok (.iload_n 1, 1) := dk_27 (dk_at dksX0_lend_2 7 rfl rfl)
theorem dX0_lend_55 : decode cX0_lend 55 = .ok (.iconst 1, 1) := dk_4 (dk_at dksX0_lend_2 8 rfl rfl)
theorem dX0_lend_56 : decode cX0_lend 56 = .ok (.invokevirtual 7, 3) := dk_182 0 7 (dk_at dksX0_lend_2 9 rfl rfl)
theorem dX0_lend_59 : decode cX0_lend 59 = .ok (.ireturn, 1) := dk_172 (dk_at dksX0_lend_2 12 rfl rfl)
abbrev cX0_whyNot : ByteArray := prog_1_method_25_code
def yX0_whyNot : MethodName := ⟨RX0, "whyNot", "(III)I"⟩
def dkwX0_whyNot_1 : List UInt8 := [182, 0, 7, 29, 96, 16, 20, 164, 0, 8, 16, 253, 167, 0, 4, 3, 172]
abbrev dktX0_whyNot_1 : List UInt8 := dkwX0_whyNot_1 ++ []
def dkwX0_whyNot_0 : List UInt8 := [42, 180, 0, 109, 27, 4, 182, 0, 7, 29, 162, 0, 6, 16, 254, 172, 42, 180, 0, 109, 28, 4]
abbrev dktX0_whyNot_0 : List UInt8 := dkwX0_whyNot_0 ++ dktX0_whyNot_1
theorem dksX0_whyNot_0 : cX0_whyNot.data.toList.drop 0 = dktX0_whyNot_0 := by decide +kernel
theorem dksX0_whyNot_1 : cX0_whyNot.data.toList.drop 22 = dktX0_whyNot_1 := dk_seg dksX0_whyNot_0 22 rfl rfl
theorem dX0_whyNot_0 : decode cX0_whyNot 0 = .ok (.aload_n 0, 1) := dk_42 (dk_at dksX0_whyNot_0 0 rfl rfl)
theorem dX0_whyNot_1 : decode cX0_whyNot 1 = .ok (.getfield 109, 3) := dk_180 0 109 (dk_at dksX0_whyNot_0 1 rfl rfl)
theorem dX0_whyNot_4 : decode cX0_whyNot 4 = .ok (.iload_n 1, 1) := dk_27 (dk_at dksX0_whyNot_0 4 rfl rfl)
theorem dX0_whyNot_5 : decode cX0_whyNot 5 = .ok (.iconst 1, 1) := dk_4 (dk_at dksX0_whyNot_0 5 rfl rfl)
theorem dX0_whyNot_6 : decode cX0_whyNot 6 = .ok (.invokevirtual 7, 3) := dk_182 0 7 (dk_at dksX0_whyNot_0 6 rfl rfl)
theorem dX0_whyNot_9 : decode cX0_whyNot 9 = .ok (.iload_n 3, 1) := dk_29 (dk_at dksX0_whyNot_0 9 rfl rfl)
theorem dX0_whyNot_10 : decode cX0_whyNot 10 = .ok (.if_icmp .ge 6, 3) := dk_162 0 6 (dk_at dksX0_whyNot_0 10 rfl rfl)
theorem dX0_whyNot_13 : decode cX0_whyNot 13 = .ok (.bipush (-2), 2) := dk_16 254 (dk_at dksX0_whyNot_0 13 rfl rfl)
theorem dX0_whyNot_15 : decode cX0_whyNot 15 = .ok (.ireturn, 1) := dk_172 (dk_at dksX0_whyNot_0 15 rfl rfl)
theorem dX0_whyNot_16 : decode cX0_whyNot 16 = .ok (.aload_n 0, 1) := dk_42 (dk_at dksX0_whyNot_0 16 rfl rfl)
theorem dX0_whyNot_17 : decode cX0_whyNot 17 = .ok (.getfield 109, 3) := dk_180 0 109 (dk_at dksX0_whyNot_0 17 rfl rfl)
theorem dX0_whyNot_20 : decode cX0_whyNot 20 = .ok (.iload_n 2, 1) := dk_28 (dk_at dksX0_whyNot_0 20 rfl rfl)
theorem dX0_whyNot_21 : decode cX0_whyNot 21 = .ok (.iconst 1, 1) := dk_4 (dk_at dksX0_whyNot_0 21 rfl rfl)
theorem dX0_whyNot_22 : decode cX0_whyNot 22 = .ok (.invokevirtual 7, 3) := dk_182 0 7 (dk_at dksX0_whyNot_1 0 rfl rfl)
theorem dX0_whyNot_25 : decode cX0_whyNot 25 = .ok (.iload_n 3, 1) := dk_29 (dk_at dksX0_whyNot_1 3 rfl rfl)
theorem dX0_whyNot_26 : decode cX0_whyNot 26 = .ok (.iadd, 1) := dk_96 (dk_at dksX0_whyNot_1 4 rfl rfl)
theorem dX0_whyNot_27 : decode cX0_whyNot 27 = .ok (.bipush 20, 2) := dk_16 20 (dk_at dksX0_whyNot_1 5 rfl rfl)
theorem dX0_whyNot_29 : decode cX0_whyNot 29 = .ok (.if_icmp .le 8, 3) := dk_164 0 8 (dk_at dksX0_whyNot_1 7 rfl rfl)
theorem dX0_whyNot_32 : decode cX0_whyNot 32 = .ok (.bipush (-3), 2) := dk_16 253 (dk_at dksX0_whyNot_1 10 rfl rfl)
theorem dX0_whyNot_34 : decode cX0_whyNot 34 = .ok (.goto 4, 3) := dk_167 0 4 (dk_at dksX0_whyNot_1 12 rfl rfl)
theorem dX0_whyNot_37 : decode cX0_whyNot 37 = .ok (.iconst 0, 1) := dk_3 (dk_at dksX0_whyNot_1 15 rfl rfl)
theorem dX0_whyNot_38 : decode cX0_whyNot 38 = .ok (.ireturn, 1) := dk_172 (dk_at dksX0_whyNot_1 16 rfl rfl)
abbrev cX0_lends : ByteArray := prog_1_method_26_code
def yX0_lends : MethodName := ⟨RX0, "lends", "(LLoseLeague$League;III)V"⟩
def dkwX0_lends_1 : List UInt8 := [96, 182, 0, 205, 177]
abbrev dktX0_lends_1 : List UInt8 := dkwX0_lends_1 ++ []
def dkwX0_lends_0 : List UInt8 := [42, 27, 4, 42, 27, 4, 182, 0, 7, 29, 100, 182, 0, 205, 42, 28, 4, 42, 28, 4, 182, 0, 7, 29]
abbrev dktX0_lends_0 : List UInt8 := dkwX0_lends_0 ++ dktX0_lends_1
theorem dksX0_lends_0 : cX0_lends.data.toList.drop 0 = dktX0_lends_0 := by decide +kernel
theorem dksX0_lends_1 : cX0_lends.data.toList.drop 24 = dktX0_lends_1 := dk_seg dksX0_lends_0 24 rfl rfl
theorem dX0_lends_0 : decode cX0_lends 0 = .ok (.aload_n 0, 1) := dk_42 (dk_at dksX0_lends_0 0 rfl rfl)
theorem dX0_lends_1 : decode cX0_lends 1 = .ok (.iload_n 1, 1) := dk_27 (dk_at dksX0_lends_0 1 rfl rfl)
theorem dX0_lends_2 : decode cX0_lends 2 = .ok (.iconst 1, 1) := dk_4 (dk_at dksX0_lends_0 2 rfl rfl)
theorem dX0_lends_3 : decode cX0_lends 3 = .ok (.aload_n 0, 1) := dk_42 (dk_at dksX0_lends_0 3 rfl rfl)
theorem dX0_lends_4 : decode cX0_lends 4 = .ok (.iload_n 1, 1) := dk_27 (dk_at dksX0_lends_0 4 rfl rfl)
theorem dX0_lends_5 : decode cX0_lends 5 = .ok (.iconst 1, 1) := dk_4 (dk_at dksX0_lends_0 5 rfl rfl)
theorem dX0_lends_6 : decode cX0_lends 6 = .ok (.invokevirtual 7, 3) := dk_182 0 7 (dk_at dksX0_lends_0 6 rfl rfl)
theorem dX0_lends_9 : decode cX0_lends 9 = .ok (.iload_n 3, 1) := dk_29 (dk_at dksX0_lends_0 9 rfl rfl)
theorem dX0_lends_10 : decode cX0_lends 10 = .ok (.isub, 1) := dk_100 (dk_at dksX0_lends_0 10 rfl rfl)
theorem dX0_lends_11 : decode cX0_lends 11 = .ok (.invokevirtual 205, 3) := dk_182 0 205 (dk_at dksX0_lends_0 11 rfl rfl)
theorem dX0_lends_14 : decode cX0_lends 14 = .ok (.aload_n 0, 1) := dk_42 (dk_at dksX0_lends_0 14 rfl rfl)
theorem dX0_lends_15 : decode cX0_lends 15 = .ok (.iload_n 2, 1) := dk_28 (dk_at dksX0_lends_0 15 rfl rfl)
theorem dX0_lends_16 : decode cX0_lends 16 = .ok (.iconst 1, 1) := dk_4 (dk_at dksX0_lends_0 16 rfl rfl)
theorem dX0_lends_17 : decode cX0_lends 17 = .ok (.aload_n 0, 1) := dk_42 (dk_at dksX0_lends_0 17 rfl rfl)
theorem dX0_lends_18 : decode cX0_lends 18 = .ok (.iload_n 2, 1) := dk_28 (dk_at dksX0_lends_0 18 rfl rfl)
theorem dX0_lends_19 : decode cX0_lends 19 = .ok (.iconst 1, 1) := dk_4 (dk_at dksX0_lends_0 19 rfl rfl)
theorem dX0_lends_20 : decode cX0_lends 20 = .ok (.invokevirtual 7, 3) := dk_182 0 7 (dk_at dksX0_lends_0 20 rfl rfl)
theorem dX0_lends_23 : decode cX0_lends 23 = .ok (.iload_n 3, 1) := dk_29 (dk_at dksX0_lends_0 23 rfl rfl)
theorem dX0_lends_24 : decode cX0_lends 24 = .ok (.iadd, 1) := dk_96 (dk_at dksX0_lends_1 0 rfl rfl)
theorem dX0_lends_25 : decode cX0_lends 25 = .ok (.invokevirtual 205, 3) := dk_182 0 205 (dk_at dksX0_lends_1 1 rfl rfl)
theorem dX0_lends_28 : decode cX0_lends 28 = .ok (.return_, 1) := dk_177 (dk_at dksX0_lends_1 4 rfl rfl)
abbrev cX0_book : ByteArray := prog_1_method_28_code
def yX0_book : MethodName := ⟨RX0, "book", "(II)I"⟩
def dkwX0_book_1 : List UInt8 := [16, 253, 172, 42, 180, 0, 109, 27, 28, 182, 0, 219, 42, 180, 0, 109, 180, 0, 46, 172]
abbrev dktX0_book_1 : List UInt8 := dkwX0_book_1 ++ []
def dkwX0_book_0 : List UInt8 := [42, 27, 28, 182, 0, 199, 154, 0, 5, 2, 172, 42, 180, 0, 109, 180, 0, 46, 16, 10, 160, 0, 6]
abbrev dktX0_book_0 : List UInt8 := dkwX0_book_0 ++ dktX0_book_1
theorem dksX0_book_0 : cX0_book.data.toList.drop 0 = dktX0_book_0 := by decide +kernel
theorem dksX0_book_1 : cX0_book.data.toList.drop 23 = dktX0_book_1 := dk_seg dksX0_book_0 23 rfl rfl
theorem dX0_book_0 : decode cX0_book 0 = .ok (.aload_n 0, 1) := dk_42 (dk_at dksX0_book_0 0 rfl rfl)
theorem dX0_book_1 : decode cX0_book 1 = .ok (.iload_n 1, 1) := dk_27 (dk_at dksX0_book_0 1 rfl rfl)
theorem dX0_book_2 : decode cX0_book 2 = .ok (.iload_n 2, 1) := dk_28 (dk_at dksX0_book_0 2 rfl rfl)
theorem dX0_book_3 : decode cX0_book 3 = .ok (.invokevirtual 199, 3) := dk_182 0 199 (dk_at dksX0_book_0 3 rfl rfl)
theorem dX0_book_6 : decode cX0_book 6 = .ok (.ifCond .ne 5, 3) := dk_154 0 5 (dk_at dksX0_book_0 6 rfl rfl)
theorem dX0_book_9 : decode cX0_book 9 = .ok (.iconst (-1), 1) := dk_2 (dk_at dksX0_book_0 9 rfl rfl)
theorem dX0_book_10 : decode cX0_book 10 = .ok (.ireturn, 1) := dk_172 (dk_at dksX0_book_0 10 rfl rfl)
theorem dX0_book_11 : decode cX0_book 11 = .ok (.aload_n 0, 1) := dk_42 (dk_at dksX0_book_0 11 rfl rfl)
theorem dX0_book_12 : decode cX0_book 12 = .ok (.getfield 109, 3) := dk_180 0 109 (dk_at dksX0_book_0 12 rfl rfl)
theorem dX0_book_15 : decode cX0_book 15 = .ok (.getfield 46, 3) := dk_180 0 46 (dk_at dksX0_book_0 15 rfl rfl)
theorem dX0_book_18 : decode cX0_book 18 = .ok (.bipush 10, 2) := dk_16 10 (dk_at dksX0_book_0 18 rfl rfl)
theorem dX0_book_20 : decode cX0_book 20 = .ok (.if_icmp .ne 6, 3) := dk_160 0 6 (dk_at dksX0_book_0 20 rfl rfl)
theorem dX0_book_23 : decode cX0_book 23 = .ok (.bipush (-3), 2) := dk_16 253 (dk_at dksX0_book_1 0 rfl rfl)
theorem dX0_book_25 : decode cX0_book 25 = .ok (.ireturn, 1) := dk_172 (dk_at dksX0_book_1 2 rfl rfl)
theorem dX0_book_26 : decode cX0_book 26 = .ok (.aload_n 0, 1) := dk_42 (dk_at dksX0_book_1 3 rfl rfl)
theorem dX0_book_27 : decode cX0_book 27 = .ok (.getfield 109, 3) := dk_180 0 109 (dk_at dksX0_book_1 4 rfl rfl)
theorem dX0_book_30 : decode cX0_book 30 = .ok (.iload_n 1, 1) := dk_27 (dk_at dksX0_book_1 7 rfl rfl)
theorem dX0_book_31 : decode cX0_book 31 = .ok (.iload_n 2, 1) := dk_28 (dk_at dksX0_book_1 8 rfl rfl)
theorem dX0_book_32 : decode cX0_book 32 = .ok (.invokevirtual 219, 3) := dk_182 0 219 (dk_at dksX0_book_1 9 rfl rfl)
theorem dX0_book_35 : decode cX0_book 35 = .ok (.aload_n 0, 1) := dk_42 (dk_at dksX0_book_1 12 rfl rfl)
theorem dX0_book_36 : decode cX0_book 36 = .ok (.getfield 109, 3) := dk_180 0 109 (dk_at dksX0_book_1 13 rfl rfl)
theorem dX0_book_39 : decode cX0_book 39 = .ok (.getfield 46, 3) := dk_180 0 46 (dk_at dksX0_book_1 16 rfl rfl)
theorem dX0_book_42 : decode cX0_book 42 = .ok (.ireturn, 1) := dk_172 (dk_at dksX0_book_1 19 rfl rfl)
abbrev cX0_strike : ByteArray := prog_1_method_29_code
def yX0_strike : MethodName := ⟨RX0, "strike", "(I)I"⟩
def dkwX0_strike_1 : List UInt8 := [180, 0, 46, 61, 42, 180, 0, 109, 27, 181, 0, 46, 28, 172]
abbrev dktX0_strike_1 : List UInt8 := dkwX0_strike_1 ++ []
def dkwX0_strike_0 : List UInt8 := [27, 133, 9, 42, 180, 0, 109, 180, 0, 46, 133, 184, 0, 144, 154, 0, 5, 2, 172, 42, 180, 0, 109]
abbrev dktX0_strike_0 : List UInt8 := dkwX0_strike_0 ++ dktX0_strike_1
theorem dksX0_strike_0 : cX0_strike.data.toList.drop 0 = dktX0_strike_0 := by decide +kernel
theorem dksX0_strike_1 : cX0_strike.data.toList.drop 23 = dktX0_strike_1 := dk_seg dksX0_strike_0 23 rfl rfl
theorem dX0_strike_0 : decode cX0_strike 0 = .ok (.iload_n 1, 1) := dk_27 (dk_at dksX0_strike_0 0 rfl rfl)
theorem dX0_strike_1 : decode cX0_strike 1 = .ok (.i2l, 1) := dk_133 (dk_at dksX0_strike_0 1 rfl rfl)
theorem dX0_strike_2 : decode cX0_strike 2 = .ok (.lconst 0, 1) := dk_9 (dk_at dksX0_strike_0 2 rfl rfl)
theorem dX0_strike_3 : decode cX0_strike 3 = .ok (.aload_n 0, 1) := dk_42 (dk_at dksX0_strike_0 3 rfl rfl)
theorem dX0_strike_4 : decode cX0_strike 4 = .ok (.getfield 109, 3) := dk_180 0 109 (dk_at dksX0_strike_0 4 rfl rfl)
theorem dX0_strike_7 : decode cX0_strike 7 = .ok (.getfield 46, 3) := dk_180 0 46 (dk_at dksX0_strike_0 7 rfl rfl)
theorem dX0_strike_10 : decode cX0_strike 10 = .ok (.i2l, 1) := dk_133 (dk_at dksX0_strike_0 10 rfl rfl)
theorem dX0_strike_11 : decode cX0_strike 11 = .ok (.invokestatic 144, 3) := dk_184 0 144 (dk_at dksX0_strike_0 11 rfl rfl)
theorem dX0_strike_14 : decode cX0_strike 14 = .ok (.ifCond .ne 5, 3) := dk_154 0 5 (dk_at dksX0_strike_0 14 rfl rfl)
theorem dX0_strike_17 : decode cX0_strike 17 = .ok (.iconst (-1), 1) := dk_2 (dk_at dksX0_strike_0 17 rfl rfl)
theorem dX0_strike_18 : decode cX0_strike 18 = .ok (.ireturn, 1) := dk_172 (dk_at dksX0_strike_0 18 rfl rfl)
theorem dX0_strike_19 : decode cX0_strike 19 = .ok (.aload_n 0, 1) := dk_42 (dk_at dksX0_strike_0 19 rfl rfl)
theorem dX0_strike_20 : decode cX0_strike 20 = .ok (.getfield 109, 3) := dk_180 0 109 (dk_at dksX0_strike_0 20 rfl rfl)
theorem dX0_strike_23 : decode cX0_strike 23 = .ok (.getfield 46, 3) := dk_180 0 46 (dk_at dksX0_strike_1 0 rfl rfl)
theorem dX0_strike_26 : decode cX0_strike 26 = .ok (.istore_n 2, 1) := dk_61 (dk_at dksX0_strike_1 3 rfl rfl)
theorem dX0_strike_27 : decode cX0_strike 27 = .ok (.aload_n 0, 1) := dk_42 (dk_at dksX0_strike_1 4 rfl rfl)
theorem dX0_strike_28 : decode cX0_strike 28 = .ok (.getfield 109, 3) := dk_180 0 109 (dk_at dksX0_strike_1 5 rfl rfl)
theorem dX0_strike_31 : decode cX0_strike 31 = .ok (.iload_n 1, 1) := dk_27 (dk_at dksX0_strike_1 8 rfl rfl)
theorem dX0_strike_32 : decode cX0_strike 32 = .ok (.putfield 46, 3) := dk_181 0 46 (dk_at dksX0_strike_1 9 rfl rfl)
theorem dX0_strike_35 : decode cX0_strike 35 = .ok (.iload_n 2, 1) := dk_28 (dk_at dksX0_strike_1 12 rfl rfl)
theorem dX0_strike_36 : decode cX0_strike 36 = .ok (.ireturn, 1) := dk_172 (dk_at dksX0_strike_1 13 rfl rfl)
abbrev cX0_weeks : ByteArray := prog_1_method_30_code
def yX0_weeks : MethodName := ⟨RX0, "weeks", "(I)I"⟩
def dkwX0_weeks_1 : List UInt8 := [17, 3, 231, 164, 0, 6, 16, 253, 172, 42, 42, 180, 0, 109, 27, 182, 0, 85, 42, 180, 0, 21, 172]
abbrev dktX0_weeks_1 : List UInt8 := dkwX0_weeks_1 ++ []
def dkwX0_weeks_0 : List UInt8 := [27, 133, 9, 20, 0, 223, 184, 0, 144, 154, 0, 5, 2, 172, 42, 180, 0, 109, 180, 0, 56, 27, 96]
abbrev dktX0_weeks_0 : List UInt8 := dkwX0_weeks_0 ++ dktX0_weeks_1
theorem dksX0_weeks_0 : cX0_weeks.data.toList.drop 0 = dktX0_weeks_0 := by decide +kernel
theorem dksX0_weeks_1 : cX0_weeks.data.toList.drop 23 = dktX0_weeks_1 := dk_seg dksX0_weeks_0 23 rfl rfl
theorem dX0_weeks_0 : decode cX0_weeks 0 = .ok (.iload_n 1, 1) := dk_27 (dk_at dksX0_weeks_0 0 rfl rfl)
theorem dX0_weeks_1 : decode cX0_weeks 1 = .ok (.i2l, 1) := dk_133 (dk_at dksX0_weeks_0 1 rfl rfl)
theorem dX0_weeks_2 : decode cX0_weeks 2 = .ok (.lconst 0, 1) := dk_9 (dk_at dksX0_weeks_0 2 rfl rfl)
theorem dX0_weeks_3 : decode cX0_weeks 3 = .ok (.ldc2_w 223, 3) := dk_20 0 223 (dk_at dksX0_weeks_0 3 rfl rfl)
theorem dX0_weeks_6 : decode cX0_weeks 6 = .ok (.invokestatic 144, 3) := dk_184 0 144 (dk_at dksX0_weeks_0 6 rfl rfl)
theorem dX0_weeks_9 : decode cX0_weeks 9 = .ok (.ifCond .ne 5, 3) := dk_154 0 5 (dk_at dksX0_weeks_0 9 rfl rfl)
theorem dX0_weeks_12 : decode cX0_weeks 12 = .ok (.iconst (-1), 1) := dk_2 (dk_at dksX0_weeks_0 12 rfl rfl)
theorem dX0_weeks_13 : decode cX0_weeks 13 = .ok (.ireturn, 1) := dk_172 (dk_at dksX0_weeks_0 13 rfl rfl)
theorem dX0_weeks_14 : decode cX0_weeks 14 = .ok (.aload_n 0, 1) := dk_42 (dk_at dksX0_weeks_0 14 rfl rfl)
theorem dX0_weeks_15 : decode cX0_weeks 15 = .ok (.getfield 109, 3) := dk_180 0 109 (dk_at dksX0_weeks_0 15 rfl rfl)
theorem dX0_weeks_18 : decode cX0_weeks 18 = .ok (.getfield 56, 3) := dk_180 0 56 (dk_at dksX0_weeks_0 18 rfl rfl)
theorem dX0_weeks_21 : decode cX0_weeks 21 = .ok (.iload_n 1, 1) := dk_27 (dk_at dksX0_weeks_0 21 rfl rfl)
theorem dX0_weeks_22 : decode cX0_weeks 22 = .ok (.iadd, 1) := dk_96 (dk_at dksX0_weeks_0 22 rfl rfl)
theorem dX0_weeks_23 : decode cX0_weeks 23 = .ok (.sipush 999, 3) := dk_17 3 231 (dk_at dksX0_weeks_1 0 rfl rfl)
theorem dX0_weeks_26 : decode cX0_weeks 26 = .ok (.if_icmp .le 6, 3) := dk_164 0 6 (dk_at dksX0_weeks_1 3 rfl rfl)
theorem dX0_weeks_29 : decode cX0_weeks 29 = .ok (.bipush (-3), 2) := dk_16 253 (dk_at dksX0_weeks_1 6 rfl rfl)
theorem dX0_weeks_31 : decode cX0_weeks 31 = .ok (.ireturn, 1) := dk_172 (dk_at dksX0_weeks_1 8 rfl rfl)
theorem dX0_weeks_32 : decode cX0_weeks 32 = .ok (.aload_n 0, 1) := dk_42 (dk_at dksX0_weeks_1 9 rfl rfl)
theorem dX0_weeks_33 : decode cX0_weeks 33 = .ok (.aload_n 0, 1) := dk_42 (dk_at dksX0_weeks_1 10 rfl rfl)
theorem dX0_weeks_34 : decode cX0_weeks 34 = .ok (.getfield 109, 3) := dk_180 0 109 (dk_at dksX0_weeks_1 11 rfl rfl)
theorem dX0_weeks_37 : decode cX0_weeks 37 = .ok (.iload_n 1, 1) := dk_27 (dk_at dksX0_weeks_1 14 rfl rfl)
theorem dX0_weeks_38 : decode cX0_weeks 38 = .ok (.invokevirtual 85, 3) := dk_182 0 85 (dk_at dksX0_weeks_1 15 rfl rfl)
theorem dX0_weeks_41 : decode cX0_weeks 41 = .ok (.aload_n 0, 1) := dk_42 (dk_at dksX0_weeks_1 18 rfl rfl)
theorem dX0_weeks_42 : decode cX0_weeks 42 = .ok (.getfield 21, 3) := dk_180 0 21 (dk_at dksX0_weeks_1 19 rfl rfl)
theorem dX0_weeks_45 : decode cX0_weeks 45 = .ok (.ireturn, 1) := dk_172 (dk_at dksX0_weeks_1 22 rfl rfl)
abbrev cX0_weeksGo : ByteArray := prog_1_method_9_code
def yX0_weeksGo : MethodName := ⟨RX0, "weeksGo", "(LLoseLeague$League;I)V"⟩
def dkwX0_weeksGo_0 : List UInt8 := [42, 182, 0, 74, 3, 62, 29, 28, 162, 0, 15, 42, 43, 3, 182, 0, 77, 132, 3, 1, 167, 255, 242, 177]
abbrev dktX0_weeksGo_0 : List UInt8 := dkwX0_weeksGo_0 ++ []
theorem dksX0_weeksGo_0 : cX0_weeksGo.data.toList.drop 0 = dktX0_weeksGo_0 := by decide +kernel
theorem dX0_weeksGo_0 : decode cX0_weeksGo 0 = .ok (.aload_n 0, 1) := dk_42 (dk_at dksX0_weeksGo_0 0 rfl rfl)
theorem dX0_weeksGo_1 : decode cX0_weeksGo 1 = .ok (.invokevirtual 74, 3) := dk_182 0 74 (dk_at dksX0_weeksGo_0 1 rfl rfl)
theorem dX0_weeksGo_4 : decode cX0_weeksGo 4 = .ok (.iconst 0, 1) := dk_3 (dk_at dksX0_weeksGo_0 4 rfl rfl)
theorem dX0_weeksGo_5 : decode cX0_weeksGo 5 = .ok (.istore_n 3, 1) := dk_62 (dk_at dksX0_weeksGo_0 5 rfl rfl)
theorem dX0_weeksGo_6 : decode cX0_weeksGo 6 = .ok (.iload_n 3, 1) := dk_29 (dk_at dksX0_weeksGo_0 6 rfl rfl)
theorem dX0_weeksGo_7 : decode cX0_weeksGo 7 = .ok (.iload_n 2, 1) := dk_28 (dk_at dksX0_weeksGo_0 7 rfl rfl)
theorem dX0_weeksGo_8 : decode cX0_weeksGo 8 = .ok (.if_icmp .ge 15, 3) := dk_162 0 15 (dk_at dksX0_weeksGo_0 8 rfl rfl)
theorem dX0_weeksGo_11 : decode cX0_weeksGo 11 = .ok (.aload_n 0, 1) := dk_42 (dk_at dksX0_weeksGo_0 11 rfl rfl)
theorem dX0_weeksGo_12 : decode cX0_weeksGo 12 = .ok (.aload_n 1, 1) := dk_43 (dk_at dksX0_weeksGo_0 12 rfl rfl)
theorem dX0_weeksGo_13 : decode cX0_weeksGo 13 = .ok (.iconst 0, 1) := dk_3 (dk_at dksX0_weeksGo_0 13 rfl rfl)
theorem dX0_weeksGo_14 : decode cX0_weeksGo 14 = .ok (.invokevirtual 77, 3) := dk_182 0 77 (dk_at dksX0_weeksGo_0 14 rfl rfl)
theorem dX0_weeksGo_17 : decode cX0_weeksGo 17 = .ok (.iinc 3 1, 3) := dk_132 3 1 (dk_at dksX0_weeksGo_0 17 rfl rfl)
theorem dX0_weeksGo_20 : decode cX0_weeksGo 20 = .ok (.goto (-14), 3) := dk_167 255 242 (dk_at dksX0_weeksGo_0 20 rfl rfl)
theorem dX0_weeksGo_23 : decode cX0_weeksGo 23 = .ok (.return_, 1) := dk_177 (dk_at dksX0_weeksGo_0 23 rfl rfl)
abbrev cX0_startsCounting : ByteArray := prog_1_method_5_code
def yX0_startsCounting : MethodName := ⟨RX0, "startsCounting", "()V"⟩
def dkwX0_startsCounting_0 : List UInt8 := [42, 3, 181, 0, 21, 42, 3, 181, 0, 25, 42, 3, 181, 0, 28, 42, 16, 252, 181, 0, 31, 177]
abbrev dktX0_startsCounting_0 : List UInt8 := dkwX0_startsCounting_0 ++ []
theorem dksX0_startsCounting_0 : cX0_startsCounting.data.toList.drop 0 = dktX0_startsCounting_0 := by decide +kernel
theorem dX0_startsCounting_0 : decode cX0_startsCounting 0 = .ok (.aload_n 0, 1) := dk_42 (dk_at dksX0_startsCounting_0 0 rfl rfl)
theorem dX0_startsCounting_1 : decode cX0_startsCounting 1 = .ok (.iconst 0, 1) := dk_3 (dk_at dksX0_startsCounting_0 1 rfl rfl)
theorem dX0_startsCounting_2 : decode cX0_startsCounting 2 = .ok (.putfield 21, 3) := dk_181 0 21 (dk_at dksX0_startsCounting_0 2 rfl rfl)
theorem dX0_startsCounting_5 : decode cX0_startsCounting 5 = .ok (.aload_n 0, 1) := dk_42 (dk_at dksX0_startsCounting_0 5 rfl rfl)
theorem dX0_startsCounting_6 : decode cX0_startsCounting 6 = .ok (.iconst 0, 1) := dk_3 (dk_at dksX0_startsCounting_0 6 rfl rfl)
theorem dX0_startsCounting_7 : decode cX0_startsCounting 7 = .ok (.putfield 25, 3) := dk_181 0 25 (dk_at dksX0_startsCounting_0 7 rfl rfl)
theorem dX0_startsCounting_10 : decode cX0_startsCounting 10 = .ok (.aload_n 0, 1) := dk_42 (dk_at dksX0_startsCounting_0 10 rfl rfl)
theorem dX0_startsCounting_11 : decode cX0_startsCounting 11 = .ok (.iconst 0, 1) := dk_3 (dk_at dksX0_startsCounting_0 11 rfl rfl)
theorem dX0_startsCounting_12 : decode cX0_startsCounting 12 = .ok (.putfield 28, 3) := dk_181 0 28 (dk_at dksX0_startsCounting_0 12 rfl rfl)
theorem dX0_startsCounting_15 : decode cX0_startsCounting 15 = .ok (.aload_n 0, 1) := dk_42 (dk_at dksX0_startsCounting_0 15 rfl rfl)
theorem dX0_startsCounting_16 : decode cX0_startsCounting 16 = .ok (.bipush (-4), 2) := dk_16 252 (dk_at dksX0_startsCounting_0 16 rfl rfl)
theorem dX0_startsCounting_18 : decode cX0_startsCounting 18 = .ok (.putfield 31, 3) := dk_181 0 31 (dk_at dksX0_startsCounting_0 18 rfl rfl)
theorem dX0_startsCounting_21 : decode cX0_startsCounting 21 = .ok (.return_, 1) := dk_177 (dk_at dksX0_startsCounting_0 21 rfl rfl)
abbrev cX0_weekGoes : ByteArray := prog_1_method_8_code
def yX0_weekGoes : MethodName := ⟨RX0, "weekGoes", "(LLoseLeague$League;Z)V"⟩
def dkwX0_weekGoes_2 : List UInt8 := [4, 96, 51, 182, 0, 66, 42, 43, 182, 0, 70, 177]
abbrev dktX0_weekGoes_2 : List UInt8 := dkwX0_weekGoes_2 ++ []
def dkwX0_weekGoes_1 : List UInt8 := [159, 0, 30, 28, 154, 0, 26, 42, 43, 43, 180, 0, 62, 5, 29, 104, 51, 43, 180, 0, 62, 5, 29, 104]
abbrev dktX0_weekGoes_1 : List UInt8 := dkwX0_weekGoes_1 ++ dktX0_weekGoes_2
def dkwX0_weekGoes_0 : List UInt8 := [43, 182, 0, 49, 62, 42, 16, 252, 181, 0, 31, 29, 16, 252, 159, 0, 38, 29, 43, 180, 0, 59]
abbrev dktX0_weekGoes_0 : List UInt8 := dkwX0_weekGoes_0 ++ dktX0_weekGoes_1
theorem dksX0_weekGoes_0 : cX0_weekGoes.data.toList.drop 0 = dktX0_weekGoes_0 := by decide +kernel
theorem dksX0_weekGoes_1 : cX0_weekGoes.data.toList.drop 22 = dktX0_weekGoes_1 := dk_seg dksX0_weekGoes_0 22 rfl rfl
theorem dksX0_weekGoes_2 : cX0_weekGoes.data.toList.drop 46 = dktX0_weekGoes_2 := dk_seg dksX0_weekGoes_1 24 rfl rfl
theorem dX0_weekGoes_0 : decode cX0_weekGoes 0 = .ok (.aload_n 1, 1) := dk_43 (dk_at dksX0_weekGoes_0 0 rfl rfl)
theorem dX0_weekGoes_1 : decode cX0_weekGoes 1 = .ok (.invokevirtual 49, 3) := dk_182 0 49 (dk_at dksX0_weekGoes_0 1 rfl rfl)
theorem dX0_weekGoes_4 : decode cX0_weekGoes 4 = .ok (.istore_n 3, 1) := dk_62 (dk_at dksX0_weekGoes_0 4 rfl rfl)
theorem dX0_weekGoes_5 : decode cX0_weekGoes 5 = .ok (.aload_n 0, 1) := dk_42 (dk_at dksX0_weekGoes_0 5 rfl rfl)
theorem dX0_weekGoes_6 : decode cX0_weekGoes 6 = .ok (.bipush (-4), 2) := dk_16 252 (dk_at dksX0_weekGoes_0 6 rfl rfl)
theorem dX0_weekGoes_8 : decode cX0_weekGoes 8 = .ok (.putfield 31, 3) := dk_181 0 31 (dk_at dksX0_weekGoes_0 8 rfl rfl)
theorem dX0_weekGoes_11 : decode cX0_weekGoes 11 = .ok (.iload_n 3, 1) := dk_29 (dk_at dksX0_weekGoes_0 11 rfl rfl)
theorem dX0_weekGoes_12 : decode cX0_weekGoes 12 = .ok (.bipush (-4), 2) := dk_16 252 (dk_at dksX0_weekGoes_0 12 rfl rfl)
theorem dX0_weekGoes_14 : decode cX0_weekGoes 14 = .ok (.if_icmp .eq 38, 3) := dk_159 0 38 (dk_at dksX0_weekGoes_0 14 rfl rfl)
theorem dX0_weekGoes_17 : decode cX0_weekGoes 17 = .ok (.iload_n 3, 1) := dk_29 (dk_at dksX0_weekGoes_0 17 rfl rfl)
theorem dX0_weekGoes_18 : decode cX0_weekGoes 18 = .ok (.aload_n 1, 1) := dk_43 (dk_at dksX0_weekGoes_0 18 rfl rfl)
theorem dX0_weekGoes_19 : decode cX0_weekGoes 19 = .ok (.getfield 59, 3) := dk_180 0 59 (dk_at dksX0_weekGoes_0 19 rfl rfl)
theorem dX0_weekGoes_22 : decode cX0_weekGoes 22 = .ok (.if_icmp .eq 30, 3) := dk_159 0 30 (dk_at dksX0_weekGoes_1 0 rfl rfl)
theorem dX0_weekGoes_25 : decode cX0_weekGoes 25 = .ok (.iload_n 2, 1) := dk_28 (dk_at dksX0_weekGoes_1 3 rfl rfl)
theorem dX0_weekGoes_26 : decode cX0_weekGoes 26 = .ok (.ifCond .ne 26, 3) := dk_154 0 26 (dk_at dksX0_weekGoes_1 4 rfl rfl)
theorem dX0_weekGoes_29 : decode cX0_weekGoes 29 = .ok (.aload_n 0, 1) := dk_42 (dk_at dksX0_weekGoes_1 7 rfl rfl)
theorem dX0_weekGoes_30 : decode cX0_weekGoes 30 = .ok (.aload_n 1, 1) := dk_43 (dk_at dksX0_weekGoes_1 8 rfl rfl)
theorem dX0_weekGoes_31 : decode cX0_weekGoes 31 = .ok (.aload_n 1, 1) := dk_43 (dk_at dksX0_weekGoes_1 9 rfl rfl)
theorem dX0_weekGoes_32 : decode cX0_weekGoes 32 = .ok (.getfield 62, 3) := dk_180 0 62 (dk_at dksX0_weekGoes_1 10 rfl rfl)
theorem dX0_weekGoes_35 : decode cX0_weekGoes 35 = .ok (.iconst 2, 1) := dk_5 (dk_at dksX0_weekGoes_1 13 rfl rfl)
theorem dX0_weekGoes_36 : decode cX0_weekGoes 36 = .ok (.iload_n 3, 1) := dk_29 (dk_at dksX0_weekGoes_1 14 rfl rfl)
theorem dX0_weekGoes_37 : decode cX0_weekGoes 37 = .ok (.imul, 1) := dk_104 (dk_at dksX0_weekGoes_1 15 rfl rfl)
theorem dX0_weekGoes_38 : decode cX0_weekGoes 38 = .ok (.baload, 1) := dk_51 (dk_at dksX0_weekGoes_1 16 rfl rfl)
theorem dX0_weekGoes_39 : decode cX0_weekGoes 39 = .ok (.aload_n 1, 1) := dk_43 (dk_at dksX0_weekGoes_1 17 rfl rfl)
theorem dX0_weekGoes_40 : decode cX0_weekGoes 40 = .ok (.getfield 62, 3) := dk_180 0 62 (dk_at dksX0_weekGoes_1 18 rfl rfl)
theorem dX0_weekGoes_43 : decode cX0_weekGoes 43 = .ok (.iconst 2, 1) := dk_5 (dk_at dksX0_weekGoes_1 21 rfl rfl)
theorem dX0_weekGoes_44 : decode cX0_weekGoes 44 = .ok (.iload_n 3, 1) := dk_29 (dk_at dksX0_weekGoes_1 22 rfl rfl)
theorem dX0_weekGoes_45 : decode cX0_weekGoes 45 = .ok (.imul, 1) := dk_104 (dk_at dksX0_weekGoes_1 23 rfl rfl)
theorem dX0_weekGoes_46 : decode cX0_weekGoes 46 = .ok (.iconst 1, 1) := dk_4 (dk_at dksX0_weekGoes_2 0 rfl rfl)
theorem dX0_weekGoes_47 : decode cX0_weekGoes 47 = .ok (.iadd, 1) := dk_96 (dk_at dksX0_weekGoes_2 1 rfl rfl)
theorem dX0_weekGoes_48 : decode cX0_weekGoes 48 = .ok (.baload, 1) := dk_51 (dk_at dksX0_weekGoes_2 2 rfl rfl)
theorem dX0_weekGoes_49 : decode cX0_weekGoes 49 = .ok (.invokevirtual 66, 3) := dk_182 0 66 (dk_at dksX0_weekGoes_2 3 rfl rfl)
theorem dX0_weekGoes_52 : decode cX0_weekGoes 52 = .ok (.aload_n 0, 1) := dk_42 (dk_at dksX0_weekGoes_2 6 rfl rfl)
theorem dX0_weekGoes_53 : decode cX0_weekGoes 53 = .ok (.aload_n 1, 1) := dk_43 (dk_at dksX0_weekGoes_2 7 rfl rfl)
theorem dX0_weekGoes_54 : decode cX0_weekGoes 54 = .ok (.invokevirtual 70, 3) := dk_182 0 70 (dk_at dksX0_weekGoes_2 8 rfl rfl)
theorem dX0_weekGoes_57 : decode cX0_weekGoes 57 = .ok (.return_, 1) := dk_177 (dk_at dksX0_weekGoes_2 11 rfl rfl)
abbrev cX0_isPlayed : ByteArray := prog_1_method_6_code
def yX0_isPlayed : MethodName := ⟨RX0, "isPlayed", "(LLoseLeague$League;II)V"⟩
def dkwX0_isPlayed_4 : List UInt8 := [160, 0, 7, 29, 167, 0, 4, 28, 4, 2, 16, 20, 182, 0, 38, 177]
abbrev dktX0_isPlayed_4 : List UInt8 := dkwX0_isPlayed_4 ++ []
def dkwX0_isPlayed_3 : List UInt8 := [180, 0, 1, 43, 21, 4, 3, 182, 0, 7, 50, 182, 0, 42, 16, 20, 182, 0, 38, 43, 21, 4, 28]
abbrev dktX0_isPlayed_3 : List UInt8 := dkwX0_isPlayed_3 ++ dktX0_isPlayed_4
def dkwX0_isPlayed_2 : List UInt8 := [4, 21, 4, 120, 128, 181, 0, 28, 43, 21, 4, 5, 4, 16, 99, 182, 0, 38, 43, 21, 4, 4, 42]
abbrev dktX0_isPlayed_2 : List UInt8 := dkwX0_isPlayed_2 ++ dktX0_isPlayed_3
def dkwX0_isPlayed_1 : List UInt8 := [180, 0, 25, 4, 96, 181, 0, 25, 177, 42, 89, 180, 0, 21, 4, 96, 181, 0, 21, 42, 89, 180, 0, 28]
abbrev dktX0_isPlayed_1 : List UInt8 := dkwX0_isPlayed_1 ++ dktX0_isPlayed_2
def dkwX0_isPlayed_0 : List UInt8 := [42, 43, 28, 29, 182, 0, 34, 54, 4, 42, 21, 4, 181, 0, 31, 21, 4, 16, 252, 160, 0, 14, 42, 89]
abbrev dktX0_isPlayed_0 : List UInt8 := dkwX0_isPlayed_0 ++ dktX0_isPlayed_1
theorem dksX0_isPlayed_0 : cX0_isPlayed.data.toList.drop 0 = dktX0_isPlayed_0 := by decide +kernel
theorem dksX0_isPlayed_1 : cX0_isPlayed.data.toList.drop 24 = dktX0_isPlayed_1 := dk_seg dksX0_isPlayed_0 24 rfl rfl
theorem dksX0_isPlayed_2 : cX0_isPlayed.data.toList.drop 48 = dktX0_isPlayed_2 := dk_seg dksX0_isPlayed_1 24 rfl rfl
theorem dksX0_isPlayed_3 : cX0_isPlayed.data.toList.drop 71 = dktX0_isPlayed_3 := dk_seg dksX0_isPlayed_2 23 rfl rfl
theorem dksX0_isPlayed_4 : cX0_isPlayed.data.toList.drop 94 = dktX0_isPlayed_4 := dk_seg dksX0_isPlayed_3 23 rfl rfl
theorem dX0_isPlayed_0 : decode cX0_isPlayed 0 = .ok (.aload_n 0, 1) := dk_42 (dk_at dksX0_isPlayed_0 0 rfl rfl)
theorem dX0_isPlayed_1 : decode cX0_isPlayed 1 = .ok (.aload_n 1, 1) := dk_43 (dk_at dksX0_isPlayed_0 1 rfl rfl)
theorem dX0_isPlayed_2 : decode cX0_isPlayed 2 = .ok (.iload_n 2, 1) := dk_28 (dk_at dksX0_isPlayed_0 2 rfl rfl)
theorem dX0_isPlayed_3 : decode cX0_isPlayed 3 = .ok (.iload_n 3, 1) := dk_29 (dk_at dksX0_isPlayed_0 3 rfl rfl)
theorem dX0_isPlayed_4 : decode cX0_isPlayed 4 = .ok (.invokevirtual 34, 3) := dk_182 0 34 (dk_at dksX0_isPlayed_0 4 rfl rfl)
theorem dX0_isPlayed_7 : decode cX0_isPlayed 7 = .ok (.istore 4, 2) := dk_54 4 (dk_at dksX0_isPlayed_0 7 rfl rfl)
theorem dX0_isPlayed_9 : decode cX0_isPlayed 9 = .ok (.aload_n 0, 1) := dk_42 (dk_at dksX0_isPlayed_0 9 rfl rfl)
theorem dX0_isPlayed_10 : decode cX0_isPlayed 10 = .ok (.iload 4, 2) := dk_21 4 (dk_at dksX0_isPlayed_0 10 rfl rfl)
theorem dX0_isPlayed_12 : decode cX0_isPlayed 12 = .ok (.putfield 31, 3) := dk_181 0 31 (dk_at dksX0_isPlayed_0 12 rfl rfl)
theorem dX0_isPlayed_15 : decode cX0_isPlayed 15 = .ok (.iload 4, 2) := dk_21 4 (dk_at dksX0_isPlayed_0 15 rfl rfl)
theorem dX0_isPlayed_17 : decode cX0_isPlayed 17 = .ok (.bipush (-4), 2) := dk_16 252 (dk_at dksX0_isPlayed_0 17 rfl rfl)
theorem dX0_isPlayed_19 : decode cX0_isPlayed 19 = .ok (.if_icmp .ne 14, 3) := dk_160 0 14 (dk_at dksX0_isPlayed_0 19 rfl rfl)
theorem dX0_isPlayed_22 : decode cX0_isPlayed 22 = .ok (.aload_n 0, 1) := dk_42 (dk_at dksX0_isPlayed_0 22 rfl rfl)
theorem dX0_isPlayed_23 : decode cX0_isPlayed 23 = .ok (.dup, 1) := dk_89 (dk_at dksX0_isPlayed_0 23 rfl rfl)
theorem dX0_isPlayed_24 : decode cX0_isPlayed 24 = .ok (.getfield 25, 3) := dk_180 0 25 (dk_at dksX0_isPlayed_1 0 rfl rfl)
theorem dX0_isPlayed_27 : decode cX0_isPlayed 27 = .ok (.iconst 1, 1) := dk_4 (dk_at dksX0_isPlayed_1 3 rfl rfl)
theorem dX0_isPlayed_28 : decode cX0_isPlayed 28 = .ok (.iadd, 1) := dk_96 (dk_at dksX0_isPlayed_1 4 rfl rfl)
theorem dX0_isPlayed_29 : decode cX0_isPlayed 29 = .ok (.putfield 25, 3) := dk_181 0 25 (dk_at dksX0_isPlayed_1 5 rfl rfl)
theorem dX0_isPlayed_32 : decode cX0_isPlayed 32 = .ok (.return_, 1) := dk_177 (dk_at dksX0_isPlayed_1 8 rfl rfl)
theorem dX0_isPlayed_33 : decode cX0_isPlayed 33 = .ok (.aload_n 0, 1) := dk_42 (dk_at dksX0_isPlayed_1 9 rfl rfl)
theorem dX0_isPlayed_34 : decode cX0_isPlayed 34 = .ok (.dup, 1) := dk_89 (dk_at dksX0_isPlayed_1 10 rfl rfl)
theorem dX0_isPlayed_35 : decode cX0_isPlayed 35 = .ok (.getfield 21, 3) := dk_180 0 21 (dk_at dksX0_isPlayed_1 11 rfl rfl)
theorem dX0_isPlayed_38 : decode cX0_isPlayed 38 = .ok (.iconst 1, 1) := dk_4 (dk_at dksX0_isPlayed_1 14 rfl rfl)
theorem dX0_isPlayed_39 : decode cX0_isPlayed 39 = .ok (.iadd, 1) := dk_96 (dk_at dksX0_isPlayed_1 15 rfl rfl)
theorem dX0_isPlayed_40 : decode cX0_isPlayed 40 = .ok (.putfield 21, 3) := dk_181 0 21 (dk_at dksX0_isPlayed_1 16 rfl rfl)
theorem dX0_isPlayed_43 : decode cX0_isPlayed 43 = .ok (.aload_n 0, 1) := dk_42 (dk_at dksX0_isPlayed_1 19 rfl rfl)
theorem dX0_isPlayed_44 : decode cX0_isPlayed 44 = .ok (.dup, 1) := dk_89 (dk_at dksX0_isPlayed_1 20 rfl rfl)
theorem dX0_isPlayed_45 : decode cX0_isPlayed 45 = .ok (.getfield 28, 3) := dk_180 0 28 (dk_at dksX0_isPlayed_1 21 rfl rfl)
theorem dX0_isPlayed_48 : decode cX0_isPlayed 48 = .ok (.iconst 1, 1) := dk_4 (dk_at dksX0_isPlayed_2 0 rfl rfl)
theorem dX0_isPlayed_49 : decode cX0_isPlayed 49 = .ok (.iload 4, 2) := dk_21 4 (dk_at dksX0_isPlayed_2 1 rfl rfl)
theorem dX0_isPlayed_51 : decode cX0_isPlayed 51 = .ok (.ishl, 1) := dk_120 (dk_at dksX0_isPlayed_2 3 rfl rfl)
theorem dX0_isPlayed_52 : decode cX0_isPlayed 52 = .ok (.ior, 1) := dk_128 (dk_at dksX0_isPlayed_2 4 rfl rfl)
theorem dX0_isPlayed_53 : decode cX0_isPlayed 53 = .ok (.putfield 28, 3) := dk_181 0 28 (dk_at dksX0_isPlayed_2 5 rfl rfl)
theorem dX0_isPlayed_56 : decode cX0_isPlayed 56 = .ok (.aload_n 1, 1) := dk_43 (dk_at dksX0_isPlayed_2 8 rfl rfl)
theorem dX0_isPlayed_57 : decode cX0_isPlayed 57 = .ok (.iload 4, 2) := dk_21 4 (dk_at dksX0_isPlayed_2 9 rfl rfl)
theorem dX0_isPlayed_59 : decode cX0_isPlayed 59 = .ok (.iconst 2, 1) := dk_5 (dk_at dksX0_isPlayed_2 11 rfl rfl)
theorem dX0_isPlayed_60 : decode cX0_isPlayed 60 = .ok (.iconst 1, 1) := dk_4 (dk_at dksX0_isPlayed_2 12 rfl rfl)
theorem dX0_isPlayed_61 : decode cX0_isPlayed 61 = .ok (.bipush 99, 2) := dk_16 99 (dk_at dksX0_isPlayed_2 13 rfl rfl)
theorem dX0_isPlayed_63 : decode cX0_isPlayed 63 = .ok (.invokevirtual 38, 3) := dk_182 0 38 (dk_at dksX0_isPlayed_2 15 rfl rfl)
theorem dX0_isPlayed_66 : decode cX0_isPlayed 66 = .ok (.aload_n 1, 1) := dk_43 (dk_at dksX0_isPlayed_2 18 rfl rfl)
theorem dX0_isPlayed_67 : decode cX0_isPlayed 67 = .ok (.iload 4, 2) := dk_21 4 (dk_at dksX0_isPlayed_2 19 rfl rfl)
theorem dX0_isPlayed_69 : decode cX0_isPlayed 69 = .ok (.iconst 1, 1) := dk_4 (dk_at dksX0_isPlayed_2 21 rfl rfl)
theorem dX0_isPlayed_70 : decode cX0_isPlayed 70 = .ok (.aload_n 0, 1) := dk_42 (dk_at dksX0_isPlayed_2 22 rfl rfl)
theorem dX0_isPlayed_71 : decode cX0_isPlayed 71 = .ok (.getfield 1, 3) := dk_180 0 1 (dk_at dksX0_isPlayed_3 0 rfl rfl)
theorem dX0_isPlayed_74 : decode cX0_isPlayed 74 = .ok (.aload_n 1, 1) := dk_43 (dk_at dksX0_isPlayed_3 3 rfl rfl)
theorem dX0_isPlayed_75 : decode cX0_isPlayed 75 = .ok (.iload 4, 2) := dk_21 4 (dk_at dksX0_isPlayed_3 4 rfl rfl)
theorem dX0_isPlayed_77 : decode cX0_isPlayed 77 = .ok (.iconst 0, 1) := dk_3 (dk_at dksX0_isPlayed_3 6 rfl rfl)
theorem dX0_isPlayed_78 : decode cX0_isPlayed 78 = .ok (.invokevirtual 7, 3) := dk_182 0 7 (dk_at dksX0_isPlayed_3 7 rfl rfl)
theorem dX0_isPlayed_81 : decode cX0_isPlayed 81 = .ok (.aaload, 1) := dk_50 (dk_at dksX0_isPlayed_3 10 rfl rfl)
theorem dX0_isPlayed_82 : decode cX0_isPlayed 82 = .ok (.invokevirtual 42, 3) := dk_182 0 42 (dk_at dksX0_isPlayed_3 11 rfl rfl)
theorem dX0_isPlayed_85 : decode cX0_isPlayed 85 = .ok (.bipush 20, 2) := dk_16 20 (dk_at dksX0_isPlayed_3 14 rfl rfl)
theorem dX0_isPlayed_87 : decode cX0_isPlayed 87 = .ok (.invokevirtual 38, 3) := dk_182 0 38 (dk_at dksX0_isPlayed_3 16 rfl rfl)
theorem dX0_isPlayed_90 : decode cX0_isPlayed 90 = .ok (.aload_n 1, 1) := dk_43 (dk_at dksX0_isPlayed_3 19 rfl rfl)
theorem dX0_isPlayed_91 : decode cX0_isPlayed 91 = .ok (.iload 4, 2) := dk_21 4 (dk_at dksX0_isPlayed_3 20 rfl rfl)
theorem dX0_isPlayed_93 : decode cX0_isPlayed 93 = .ok (.iload_n 2, 1) := dk_28 (dk_at dksX0_isPlayed_3 22 rfl rfl)
theorem dX0_isPlayed_94 : decode cX0_isPlayed 94 = .ok (.if_icmp .ne 7, 3) := dk_160 0 7 (dk_at dksX0_isPlayed_4 0 rfl rfl)
theorem dX0_isPlayed_97 : decode cX0_isPlayed 97 = .ok (.iload_n 3, 1) := dk_29 (dk_at dksX0_isPlayed_4 3 rfl rfl)
theorem dX0_isPlayed_98 : decode cX0_isPlayed 98 = .ok (.goto 4, 3) := dk_167 0 4 (dk_at dksX0_isPlayed_4 4 rfl rfl)
theorem dX0_isPlayed_101 : decode cX0_isPlayed 101 = .ok (.iload_n 2, 1) := dk_28 (dk_at dksX0_isPlayed_4 7 rfl rfl)
theorem dX0_isPlayed_102 : decode cX0_isPlayed 102 = .ok (.iconst 1, 1) := dk_4 (dk_at dksX0_isPlayed_4 8 rfl rfl)
theorem dX0_isPlayed_103 : decode cX0_isPlayed 103 = .ok (.iconst (-1), 1) := dk_2 (dk_at dksX0_isPlayed_4 9 rfl rfl)
theorem dX0_isPlayed_104 : decode cX0_isPlayed 104 = .ok (.bipush 20, 2) := dk_16 20 (dk_at dksX0_isPlayed_4 10 rfl rfl)
theorem dX0_isPlayed_106 : decode cX0_isPlayed 106 = .ok (.invokevirtual 38, 3) := dk_182 0 38 (dk_at dksX0_isPlayed_4 12 rfl rfl)
theorem dX0_isPlayed_109 : decode cX0_isPlayed 109 = .ok (.return_, 1) := dk_177 (dk_at dksX0_isPlayed_4 15 rfl rfl)
abbrev cX0_weekEnds : ByteArray := prog_1_method_7_code
def yX0_weekEnds : MethodName := ⟨RX0, "weekEnds", "(LLoseLeague$League;)V"⟩
def dkwX0_weekEnds_1 : List UInt8 := [43, 89, 180, 0, 56, 4, 96, 181, 0, 56, 177]
abbrev dktX0_weekEnds_1 : List UInt8 := dkwX0_weekEnds_1 ++ []
def dkwX0_weekEnds_0 : List UInt8 := [43, 180, 0, 46, 158, 0, 20, 43, 182, 0, 49, 43, 180, 0, 46, 4, 100, 160, 0, 7, 43, 182, 0, 52]
abbrev dktX0_weekEnds_0 : List UInt8 := dkwX0_weekEnds_0 ++ dktX0_weekEnds_1
theorem dksX0_weekEnds_0 : cX0_weekEnds.data.toList.drop 0 = dktX0_weekEnds_0 := by decide +kernel
theorem dksX0_weekEnds_1 : cX0_weekEnds.data.toList.drop 24 = dktX0_weekEnds_1 := dk_seg dksX0_weekEnds_0 24 rfl rfl
theorem dX0_weekEnds_0 : decode cX0_weekEnds 0 = .ok (.aload_n 1, 1) := dk_43 (dk_at dksX0_weekEnds_0 0 rfl rfl)
theorem dX0_weekEnds_1 : decode cX0_weekEnds 1 = .ok (.getfield 46, 3) := dk_180 0 46 (dk_at dksX0_weekEnds_0 1 rfl rfl)
theorem dX0_weekEnds_4 : decode cX0_weekEnds 4 = .ok (.ifCond .le 20, 3) := dk_158 0 20 (dk_at dksX0_weekEnds_0 4 rfl rfl)
theorem dX0_weekEnds_7 : decode cX0_weekEnds 7 = .ok (.aload_n 1, 1) := dk_43 (dk_at dksX0_weekEnds_0 7 rfl rfl)
theorem dX0_weekEnds_8 : decode cX0_weekEnds 8 = .ok (.invokevirtual 49, 3) := dk_182 0 49 (dk_at dksX0_weekEnds_0 8 rfl rfl)
theorem dX0_weekEnds_11 : decode cX0_weekEnds 11 = .ok (.aload_n 1, 1) := dk_43 (dk_at dksX0_weekEnds_0 11 rfl rfl)
theorem dX0_weekEnds_12 : decode cX0_weekEnds 12 = .ok (.getfield 46, 3) := dk_180 0 46 (dk_at dksX0_weekEnds_0 12 rfl rfl)
theorem dX0_weekEnds_15 : decode cX0_weekEnds 15 = .ok (.iconst 1, 1) := dk_4 (dk_at dksX0_weekEnds_0 15 rfl rfl)
theorem dX0_weekEnds_16 : decode cX0_weekEnds 16 = .ok (.isub, 1) := dk_100 (dk_at dksX0_weekEnds_0 16 rfl rfl)
theorem dX0_weekEnds_17 : decode cX0_weekEnds 17 = .ok (.if_icmp .ne 7, 3) := dk_160 0 7 (dk_at dksX0_weekEnds_0 17 rfl rfl)
theorem dX0_weekEnds_20 : decode cX0_weekEnds 20 = .ok (.aload_n 1, 1) := dk_43 (dk_at dksX0_weekEnds_0 20 rfl rfl)
theorem dX0_weekEnds_21 : decode cX0_weekEnds 21 = .ok (.invokevirtual 52, 3) := dk_182 0 52 (dk_at dksX0_weekEnds_0 21 rfl rfl)
theorem dX0_weekEnds_24 : decode cX0_weekEnds 24 = .ok (.aload_n 1, 1) := dk_43 (dk_at dksX0_weekEnds_1 0 rfl rfl)
theorem dX0_weekEnds_25 : decode cX0_weekEnds 25 = .ok (.dup, 1) := dk_89 (dk_at dksX0_weekEnds_1 1 rfl rfl)
theorem dX0_weekEnds_26 : decode cX0_weekEnds 26 = .ok (.getfield 56, 3) := dk_180 0 56 (dk_at dksX0_weekEnds_1 2 rfl rfl)
theorem dX0_weekEnds_29 : decode cX0_weekEnds 29 = .ok (.iconst 1, 1) := dk_4 (dk_at dksX0_weekEnds_1 5 rfl rfl)
theorem dX0_weekEnds_30 : decode cX0_weekEnds 30 = .ok (.iadd, 1) := dk_96 (dk_at dksX0_weekEnds_1 6 rfl rfl)
theorem dX0_weekEnds_31 : decode cX0_weekEnds 31 = .ok (.putfield 56, 3) := dk_181 0 56 (dk_at dksX0_weekEnds_1 7 rfl rfl)
theorem dX0_weekEnds_34 : decode cX0_weekEnds 34 = .ok (.return_, 1) := dk_177 (dk_at dksX0_weekEnds_1 10 rfl rfl)
abbrev cX0_runs : ByteArray := prog_1_method_31_code
def yX0_runs : MethodName := ⟨RX0, "runs", "(II)I"⟩
def dkwX0_runs_3 : List UInt8 := [180, 0, 81, 6, 182, 0, 89, 167, 0, 10, 42, 180, 0, 81, 182, 0, 191, 172]
abbrev dktX0_runs_3 : List UInt8 := dkwX0_runs_3 ++ []
def dkwX0_runs_2 : List UInt8 := [180, 0, 21, 167, 0, 38, 28, 4, 160, 0, 10, 42, 180, 0, 25, 167, 0, 26, 28, 5, 160, 0, 14, 42]
abbrev dktX0_runs_2 : List UInt8 := dkwX0_runs_2 ++ dktX0_runs_3
def dkwX0_runs_1 : List UInt8 := [180, 0, 81, 42, 180, 0, 109, 182, 0, 165, 42, 42, 180, 0, 81, 27, 182, 0, 85, 28, 154, 0, 10, 42]
abbrev dktX0_runs_1 : List UInt8 := dkwX0_runs_1 ++ dktX0_runs_2
def dkwX0_runs_0 : List UInt8 := [27, 184, 0, 225, 153, 0, 15, 28, 133, 9, 20, 0, 203, 184, 0, 144, 154, 0, 5, 2, 172, 42]
abbrev dktX0_runs_0 : List UInt8 := dkwX0_runs_0 ++ dktX0_runs_1
theorem dksX0_runs_0 : cX0_runs.data.toList.drop 0 = dktX0_runs_0 := by decide +kernel
theorem dksX0_runs_1 : cX0_runs.data.toList.drop 22 = dktX0_runs_1 := dk_seg dksX0_runs_0 22 rfl rfl
theorem dksX0_runs_2 : cX0_runs.data.toList.drop 46 = dktX0_runs_2 := dk_seg dksX0_runs_1 24 rfl rfl
theorem dksX0_runs_3 : cX0_runs.data.toList.drop 70 = dktX0_runs_3 := dk_seg dksX0_runs_2 24 rfl rfl
theorem dX0_runs_0 : decode cX0_runs 0 = .ok (.iload_n 1, 1) := dk_27 (dk_at dksX0_runs_0 0 rfl rfl)
theorem dX0_runs_1 : decode cX0_runs 1 = .ok (.invokestatic 225, 3) := dk_184 0 225 (dk_at dksX0_runs_0 1 rfl rfl)
theorem dX0_runs_4 : decode cX0_runs 4 = .ok (.ifCond .eq 15, 3) := dk_153 0 15 (dk_at dksX0_runs_0 4 rfl rfl)
theorem dX0_runs_7 : decode cX0_runs 7 = .ok (.iload_n 2, 1) := dk_28 (dk_at dksX0_runs_0 7 rfl rfl)
theorem dX0_runs_8 : decode cX0_runs 8 = .ok (.i2l, 1) := dk_133 (dk_at dksX0_runs_0 8 rfl rfl)
theorem dX0_runs_9 : decode cX0_runs 9 = .ok (.lconst 0, 1) := dk_9 (dk_at dksX0_runs_0 9 rfl rfl)
theorem dX0_runs_10 : decode cX0_runs 10 = .ok (.ldc2_w 203, 3) := dk_20 0 203 (dk_at dksX0_runs_0 10 rfl rfl)
theorem dX0_runs_13 : decode cX0_runs 13 = .ok (.invokestatic 144, 3) := dk_184 0 144 (dk_at dksX0_runs_0 13 rfl rfl)
theorem dX0_runs_16 : decode cX0_runs 16 = .ok (.ifCond .ne 5, 3) := dk_154 0 5 (dk_at dksX0_runs_0 16 rfl rfl)
theorem dX0_runs_19 : decode cX0_runs 19 = .ok (.iconst (-1), 1) := dk_2 (dk_at dksX0_runs_0 19 rfl rfl)
theorem dX0_runs_20 : decode cX0_runs 20 = .ok (.ireturn, 1) := dk_172 (dk_at dksX0_runs_0 20 rfl rfl)
theorem dX0_runs_21 : decode cX0_runs 21 = .ok (.aload_n 0, 1) := dk_42 (dk_at dksX0_runs_0 21 rfl rfl)
theorem dX0_runs_22 : decode cX0_runs 22 = .ok (.getfield 81, 3) := dk_180 0 81 (dk_at dksX0_runs_1 0 rfl rfl)
theorem dX0_runs_25 : decode cX0_runs 25 = .ok (.aload_n 0, 1) := dk_42 (dk_at dksX0_runs_1 3 rfl rfl)
theorem dX0_runs_26 : decode cX0_runs 26 = .ok (.getfield 109, 3) := dk_180 0 109 (dk_at dksX0_runs_1 4 rfl rfl)
theorem dX0_runs_29 : decode cX0_runs 29 = .ok (.invokevirtual 165, 3) := dk_182 0 165 (dk_at dksX0_runs_1 7 rfl rfl)
theorem dX0_runs_32 : decode cX0_runs 32 = .ok (.aload_n 0, 1) := dk_42 (dk_at dksX0_runs_1 10 rfl rfl)
theorem dX0_runs_33 : decode cX0_runs 33 = .ok (.aload_n 0, 1) := dk_42 (dk_at dksX0_runs_1 11 rfl rfl)
theorem dX0_runs_34 : decode cX0_runs 34 = .ok (.getfield 81, 3) := dk_180 0 81 (dk_at dksX0_runs_1 12 rfl rfl)
theorem dX0_runs_37 : decode cX0_runs 37 = .ok (.iload_n 1, 1) := dk_27 (dk_at dksX0_runs_1 15 rfl rfl)
theorem dX0_runs_38 : decode cX0_runs 38 = .ok (.invokevirtual 85, 3) := dk_182 0 85 (dk_at dksX0_runs_1 16 rfl rfl)
theorem dX0_runs_41 : decode cX0_runs 41 = .ok (.iload_n 2, 1) := dk_28 (dk_at dksX0_runs_1 19 rfl rfl)
theorem dX0_runs_42 : decode cX0_runs 42 = .ok (.ifCond .ne 10, 3) := dk_154 0 10 (dk_at dksX0_runs_1 20 rfl rfl)
theorem dX0_runs_45 : decode cX0_runs 45 = .ok (.aload_n 0, 1) := dk_42 (dk_at dksX0_runs_1 23 rfl rfl)
theorem dX0_runs_46 : decode cX0_runs 46 = .ok (.getfield 21, 3) := dk_180 0 21 (dk_at dksX0_runs_2 0 rfl rfl)
theorem dX0_runs_49 : decode cX0_runs 49 = .ok (.goto 38, 3) := dk_167 0 38 (dk_at dksX0_runs_2 3 rfl rfl)
theorem dX0_runs_52 : decode cX0_runs 52 = .ok (.iload_n 2, 1) := dk_28 (dk_at dksX0_runs_2 6 rfl rfl)
theorem dX0_runs_53 : decode cX0_runs 53 = .ok (.iconst 1, 1) := dk_4 (dk_at dksX0_runs_2 7 rfl rfl)
theorem dX0_runs_54 : decode cX0_runs 54 = .ok (.if_icmp .ne 10, 3) := dk_160 0 10 (dk_at dksX0_runs_2 8 rfl rfl)
theorem dX0_runs_57 : decode cX0_runs 57 = .ok (.aload_n 0, 1) := dk_42 (dk_at dksX0_runs_2 11 rfl rfl)
theorem dX0_runs_58 : decode cX0_runs 58 = .ok (.getfield 25, 3) := dk_180 0 25 (dk_at dksX0_runs_2 12 rfl rfl)
theorem dX0_runs_61 : decode cX0_runs 61 = .ok (.goto 26, 3) := dk_167 0 26 (dk_at dksX0_runs_2 15 rfl rfl)
theorem dX0_runs_64 : decode cX0_runs 64 = .ok (.iload_n 2, 1) := dk_28 (dk_at dksX0_runs_2 18 rfl rfl)
theorem dX0_runs_65 : decode cX0_runs 65 = .ok (.iconst 2, 1) := dk_5 (dk_at dksX0_runs_2 19 rfl rfl)
theorem dX0_runs_66 : decode cX0_runs 66 = .ok (.if_icmp .ne 14, 3) := dk_160 0 14 (dk_at dksX0_runs_2 20 rfl rfl)
theorem dX0_runs_69 : decode cX0_runs 69 = .ok (.aload_n 0, 1) := dk_42 (dk_at dksX0_runs_2 23 rfl rfl)
theorem dX0_runs_70 : decode cX0_runs 70 = .ok (.getfield 81, 3) := dk_180 0 81 (dk_at dksX0_runs_3 0 rfl rfl)
theorem dX0_runs_73 : decode cX0_runs 73 = .ok (.iconst 3, 1) := dk_6 (dk_at dksX0_runs_3 3 rfl rfl)
theorem dX0_runs_74 : decode cX0_runs 74 = .ok (.invokevirtual 89, 3) := dk_182 0 89 (dk_at dksX0_runs_3 4 rfl rfl)
theorem dX0_runs_77 : decode cX0_runs 77 = .ok (.goto 10, 3) := dk_167 0 10 (dk_at dksX0_runs_3 7 rfl rfl)
theorem dX0_runs_80 : decode cX0_runs 80 = .ok (.aload_n 0, 1) := dk_42 (dk_at dksX0_runs_3 10 rfl rfl)
theorem dX0_runs_81 : decode cX0_runs 81 = .ok (.getfield 81, 3) := dk_180 0 81 (dk_at dksX0_runs_3 11 rfl rfl)
theorem dX0_runs_84 : decode cX0_runs 84 = .ok (.invokevirtual 191, 3) := dk_182 0 191 (dk_at dksX0_runs_3 14 rfl rfl)
theorem dX0_runs_87 : decode cX0_runs 87 = .ok (.ireturn, 1) := dk_172 (dk_at dksX0_runs_3 17 rfl rfl)
abbrev cX0_isFar : ByteArray := prog_1_method_19_code
def yX0_isFar : MethodName := ⟨RX0, "isFar", "(I)Z"⟩
def dkwX0_isFar_0 : List UInt8 := [26, 133, 9, 20, 0, 189, 184, 0, 144, 172]
abbrev dktX0_isFar_0 : List UInt8 := dkwX0_isFar_0 ++ []
theorem dksX0_isFar_0 : cX0_isFar.data.toList.drop 0 = dktX0_isFar_0 := by decide +kernel
theorem dX0_isFar_0 : decode cX0_isFar 0 = .ok (.iload_n 0, 1) := dk_26 (dk_at dksX0_isFar_0 0 rfl rfl)
theorem dX0_isFar_1 : decode cX0_isFar 1 = .ok (.i2l, 1) := dk_133 (dk_at dksX0_isFar_0 1 rfl rfl)
theorem dX0_isFar_2 : decode cX0_isFar 2 = .ok (.lconst 0, 1) := dk_9 (dk_at dksX0_isFar_0 2 rfl rfl)
theorem dX0_isFar_3 : decode cX0_isFar 3 = .ok (.ldc2_w 189, 3) := dk_20 0 189 (dk_at dksX0_isFar_0 3 rfl rfl)
theorem dX0_isFar_6 : decode cX0_isFar 6 = .ok (.invokestatic 144, 3) := dk_184 0 144 (dk_at dksX0_isFar_0 6 rfl rfl)
theorem dX0_isFar_9 : decode cX0_isFar 9 = .ok (.ireturn, 1) := dk_172 (dk_at dksX0_isFar_0 9 rfl rfl)
abbrev cX0_ahead : ByteArray := prog_1_method_32_code
def yX0_ahead : MethodName := ⟨RX0, "ahead", "(III)I"⟩
def dkwX0_ahead_2 : List UInt8 := [182, 0, 85, 42, 180, 0, 81, 27, 4, 29, 96, 182, 0, 7, 172]
abbrev dktX0_ahead_2 : List UInt8 := dkwX0_ahead_2 ++ []
def dkwX0_ahead_1 : List UInt8 := [154, 0, 5, 2, 172, 42, 180, 0, 81, 42, 180, 0, 109, 182, 0, 165, 42, 42, 180, 0, 81, 28]
abbrev dktX0_ahead_1 : List UInt8 := dkwX0_ahead_1 ++ dktX0_ahead_2
def dkwX0_ahead_0 : List UInt8 := [42, 27, 182, 0, 185, 153, 0, 22, 28, 184, 0, 225, 153, 0, 15, 29, 133, 9, 20, 0, 228, 184, 0, 144]
abbrev dktX0_ahead_0 : List UInt8 := dkwX0_ahead_0 ++ dktX0_ahead_1
theorem dksX0_ahead_0 : cX0_ahead.data.toList.drop 0 = dktX0_ahead_0 := by decide +kernel
theorem dksX0_ahead_1 : cX0_ahead.data.toList.drop 24 = dktX0_ahead_1 := dk_seg dksX0_ahead_0 24 rfl rfl
theorem dksX0_ahead_2 : cX0_ahead.data.toList.drop 46 = dktX0_ahead_2 := dk_seg dksX0_ahead_1 22 rfl rfl
theorem dX0_ahead_0 : decode cX0_ahead 0 = .ok (.aload_n 0, 1) := dk_42 (dk_at dksX0_ahead_0 0 rfl rfl)
theorem dX0_ahead_1 : decode cX0_ahead 1 = .ok (.iload_n 1, 1) := dk_27 (dk_at dksX0_ahead_0 1 rfl rfl)
theorem dX0_ahead_2 : decode cX0_ahead 2 = .ok (.invokevirtual 185, 3) := dk_182 0 185 (dk_at dksX0_ahead_0 2 rfl rfl)
theorem dX0_ahead_5 : decode cX0_ahead 5 = .ok (.ifCond .eq 22, 3) := dk_153 0 22 (dk_at dksX0_ahead_0 5 rfl rfl)
theorem dX0_ahead_8 : decode cX0_ahead 8 = .ok (.iload_n 2, 1) := dk_28 (dk_at dksX0_ahead_0 8 rfl rfl)
theorem dX0_ahead_9 : decode cX0_ahead 9 = .ok (.invokestatic 225, 3) := dk_184 0 225 (dk_at dksX0_ahead_0 9 rfl rfl)
theorem dX0_ahead_12 : decode cX0_ahead 12 = .ok (.ifCond .eq 15, 3) := dk_153 0 15 (dk_at dksX0_ahead_0 12 rfl rfl)
theorem dX0_ahead_15 : decode cX0_ahead 15 = .ok (.iload_n 3, 1) := dk_29 (dk_at dksX0_ahead_0 15 rfl rfl)
theorem dX0_ahead_16 : decode cX0_ahead 16 = .ok (.i2l, 1) := dk_133 (dk_at dksX0_ahead_0 16 rfl rfl)
theorem dX0_ahead_17 : decode cX0_ahead 17 = .ok (.lconst 0, 1) := dk_9 (dk_at dksX0_ahead_0 17 rfl rfl)
theorem dX0_ahead_18 : decode cX0_ahead 18 = .ok (.ldc2_w 228, 3) := dk_20 0 228 (dk_at dksX0_ahead_0 18 rfl rfl)
theorem dX0_ahead_21 : decode cX0_ahead 21 = .ok (.invokestatic 144, 3) := dk_184 0 144 (dk_at dksX0_ahead_0 21 rfl rfl)
theorem dX0_ahead_24 : decode cX0_ahead 24 = .ok (.ifCond .ne 5, 3) := dk_154 0 5 (dk_at dksX0_ahead_1 0 rfl rfl)
theorem dX0_ahead_27 : decode cX0_ahead 27 = .ok (.iconst (-1), 1) := dk_2 (dk_at dksX0_ahead_1 3 rfl rfl)
theorem dX0_ahead_28 : decode cX0_ahead 28 = .ok (.ireturn, 1) := dk_172 (dk_at dksX0_ahead_1 4 rfl rfl)
theorem dX0_ahead_29 : decode cX0_ahead 29 = .ok (.aload_n 0, 1) := dk_42 (dk_at dksX0_ahead_1 5 rfl rfl)
theorem dX0_ahead_30 : decode cX0_ahead 30 = .ok (.getfield 81, 3) := dk_180 0 81 (dk_at dksX0_ahead_1 6 rfl rfl)
theorem dX0_ahead_33 : decode cX0_ahead 33 = .ok (.aload_n 0, 1) := dk_42 (dk_at dksX0_ahead_1 9 rfl rfl)
theorem dX0_ahead_34 : decode cX0_ahead 34 = .ok (.getfield 109, 3) := dk_180 0 109 (dk_at dksX0_ahead_1 10 rfl rfl)
theorem dX0_ahead_37 : decode cX0_ahead 37 = .ok (.invokevirtual 165, 3) := dk_182 0 165 (dk_at dksX0_ahead_1 13 rfl rfl)
theorem dX0_ahead_40 : decode cX0_ahead 40 = .ok (.aload_n 0, 1) := dk_42 (dk_at dksX0_ahead_1 16 rfl rfl)
theorem dX0_ahead_41 : decode cX0_ahead 41 = .ok (.aload_n 0, 1) := dk_42 (dk_at dksX0_ahead_1 17 rfl rfl)
theorem dX0_ahead_42 : decode cX0_ahead 42 = .ok (.getfield 81, 3) := dk_180 0 81 (dk_at dksX0_ahead_1 18 rfl rfl)
theorem dX0_ahead_45 : decode cX0_ahead 45 = .ok (.iload_n 2, 1) := dk_28 (dk_at dksX0_ahead_1 21 rfl rfl)
theorem dX0_ahead_46 : decode cX0_ahead 46 = .ok (.invokevirtual 85, 3) := dk_182 0 85 (dk_at dksX0_ahead_2 0 rfl rfl)
theorem dX0_ahead_49 : decode cX0_ahead 49 = .ok (.aload_n 0, 1) := dk_42 (dk_at dksX0_ahead_2 3 rfl rfl)
theorem dX0_ahead_50 : decode cX0_ahead 50 = .ok (.getfield 81, 3) := dk_180 0 81 (dk_at dksX0_ahead_2 4 rfl rfl)
theorem dX0_ahead_53 : decode cX0_ahead 53 = .ok (.iload_n 1, 1) := dk_27 (dk_at dksX0_ahead_2 7 rfl rfl)
theorem dX0_ahead_54 : decode cX0_ahead 54 = .ok (.iconst 1, 1) := dk_4 (dk_at dksX0_ahead_2 8 rfl rfl)
theorem dX0_ahead_55 : decode cX0_ahead 55 = .ok (.iload_n 3, 1) := dk_29 (dk_at dksX0_ahead_2 9 rfl rfl)
theorem dX0_ahead_56 : decode cX0_ahead 56 = .ok (.iadd, 1) := dk_96 (dk_at dksX0_ahead_2 10 rfl rfl)
theorem dX0_ahead_57 : decode cX0_ahead 57 = .ok (.invokevirtual 7, 3) := dk_182 0 7 (dk_at dksX0_ahead_2 11 rfl rfl)
theorem dX0_ahead_60 : decode cX0_ahead 60 = .ok (.ireturn, 1) := dk_172 (dk_at dksX0_ahead_2 14 rfl rfl)
abbrev cX0_loser : ByteArray := prog_1_method_33_code
def yX0_loser : MethodName := ⟨RX0, "loser", "(I)I"⟩
def dkwX0_loser_1 : List UInt8 := [180, 0, 81, 27, 4, 96, 182, 0, 85, 42, 180, 0, 31, 172]
abbrev dktX0_loser_1 : List UInt8 := dkwX0_loser_1 ++ []
def dkwX0_loser_0 : List UInt8 := [27, 184, 0, 225, 154, 0, 5, 2, 172, 42, 180, 0, 81, 42, 180, 0, 109, 182, 0, 165, 42, 42]
abbrev dktX0_loser_0 : List UInt8 := dkwX0_loser_0 ++ dktX0_loser_1
theorem dksX0_loser_0 : cX0_loser.data.toList.drop 0 = dktX0_loser_0 := by decide +kernel
theorem dksX0_loser_1 : cX0_loser.data.toList.drop 22 = dktX0_loser_1 := dk_seg dksX0_loser_0 22 rfl rfl
theorem dX0_loser_0 : decode cX0_loser 0 = .ok (.iload_n 1, 1) := dk_27 (dk_at dksX0_loser_0 0 rfl rfl)
theorem dX0_loser_1 : decode cX0_loser 1 = .ok (.invokestatic 225, 3) := dk_184 0 225 (dk_at dksX0_loser_0 1 rfl rfl)
theorem dX0_loser_4 : decode cX0_loser 4 = .ok (.ifCond .ne 5, 3) := dk_154 0 5 (dk_at dksX0_loser_0 4 rfl rfl)
theorem dX0_loser_7 : decode cX0_loser 7 = .ok (.iconst (-1), 1) := dk_2 (dk_at dksX0_loser_0 7 rfl rfl)
theorem dX0_loser_8 : decode cX0_loser 8 = .ok (.ireturn, 1) := dk_172 (dk_at dksX0_loser_0 8 rfl rfl)
theorem dX0_loser_9 : decode cX0_loser 9 = .ok (.aload_n 0, 1) := dk_42 (dk_at dksX0_loser_0 9 rfl rfl)
theorem dX0_loser_10 : decode cX0_loser 10 = .ok (.getfield 81, 3) := dk_180 0 81 (dk_at dksX0_loser_0 10 rfl rfl)
theorem dX0_loser_13 : decode cX0_loser 13 = .ok (.aload_n 0, 1) := dk_42 (dk_at dksX0_loser_0 13 rfl rfl)
theorem dX0_loser_14 : decode cX0_loser 14 = .ok (.getfield 109, 3) := dk_180 0 109 (dk_at dksX0_loser_0 14 rfl rfl)
theorem dX0_loser_17 : decode cX0_loser 17 = .ok (.invokevirtual 165, 3) := dk_182 0 165 (dk_at dksX0_loser_0 17 rfl rfl)
theorem dX0_loser_20 : decode cX0_loser 20 = .ok (.aload_n 0, 1) := dk_42 (dk_at dksX0_loser_0 20 rfl rfl)
theorem dX0_loser_21 : decode cX0_loser 21 = .ok (.aload_n 0, 1) := dk_42 (dk_at dksX0_loser_0 21 rfl rfl)
theorem dX0_loser_22 : decode cX0_loser 22 = .ok (.getfield 81, 3) := dk_180 0 81 (dk_at dksX0_loser_1 0 rfl rfl)
theorem dX0_loser_25 : decode cX0_loser 25 = .ok (.iload_n 1, 1) := dk_27 (dk_at dksX0_loser_1 3 rfl rfl)
theorem dX0_loser_26 : decode cX0_loser 26 = .ok (.iconst 1, 1) := dk_4 (dk_at dksX0_loser_1 4 rfl rfl)
theorem dX0_loser_27 : decode cX0_loser 27 = .ok (.iadd, 1) := dk_96 (dk_at dksX0_loser_1 5 rfl rfl)
theorem dX0_loser_28 : decode cX0_loser 28 = .ok (.invokevirtual 85, 3) := dk_182 0 85 (dk_at dksX0_loser_1 6 rfl rfl)
theorem dX0_loser_31 : decode cX0_loser 31 = .ok (.aload_n 0, 1) := dk_42 (dk_at dksX0_loser_1 9 rfl rfl)
theorem dX0_loser_32 : decode cX0_loser 32 = .ok (.getfield 31, 3) := dk_180 0 31 (dk_at dksX0_loser_1 10 rfl rfl)
theorem dX0_loser_35 : decode cX0_loser 35 = .ok (.ireturn, 1) := dk_172 (dk_at dksX0_loser_1 13 rfl rfl)
abbrev cX0_loses : ByteArray := prog_1_method_34_code
def yX0_loses : MethodName := ⟨RX0, "loses", "(I)I"⟩
def dkwX0_loses_2 : List UInt8 := [132, 2, 1, 167, 255, 228, 16, 252, 172]
abbrev dktX0_loses_2 : List UInt8 := dkwX0_loses_2 ++ []
def dkwX0_loses_1 : List UInt8 := [16, 60, 163, 0, 28, 42, 42, 180, 0, 81, 3, 182, 0, 77, 42, 180, 0, 31, 27, 160, 0, 5, 28, 172]
abbrev dktX0_loses_1 : List UInt8 := dkwX0_loses_1 ++ dktX0_loses_2
def dkwX0_loses_0 : List UInt8 := [42, 27, 182, 0, 185, 154, 0, 5, 2, 172, 42, 180, 0, 81, 42, 180, 0, 109, 182, 0, 165, 3, 61, 28]
abbrev dktX0_loses_0 : List UInt8 := dkwX0_loses_0 ++ dktX0_loses_1
theorem dksX0_loses_0 : cX0_loses.data.toList.drop 0 = dktX0_loses_0 := by decide +kernel
theorem dksX0_loses_1 : cX0_loses.data.toList.drop 24 = dktX0_loses_1 := dk_seg dksX0_loses_0 24 rfl rfl
theorem dksX0_loses_2 : cX0_loses.data.toList.drop 48 = dktX0_loses_2 := dk_seg dksX0_loses_1 24 rfl rfl
theorem dX0_loses_0 : decode cX0_loses 0 = .ok (.aload_n 0, 1) := dk_42 (dk_at dksX0_loses_0 0 rfl rfl)
theorem dX0_loses_1 : decode cX0_loses 1 = .ok (.iload_n 1, 1) := dk_27 (dk_at dksX0_loses_0 1 rfl rfl)
theorem dX0_loses_2 : decode cX0_loses 2 = .ok (.invokevirtual 185, 3) := dk_182 0 185 (dk_at dksX0_loses_0 2 rfl rfl)
theorem dX0_loses_5 : decode cX0_loses 5 = .ok (.ifCond .ne 5, 3) := dk_154 0 5 (dk_at dksX0_loses_0 5 rfl rfl)
theorem dX0_loses_8 : decode cX0_loses 8 = .ok (.iconst (-1), 1) := dk_2 (dk_at dksX0_loses_0 8 rfl rfl)
theorem dX0_loses_9 : decode cX0_loses 9 = .ok (.ireturn, 1) := dk_172 (dk_at dksX0_loses_0 9 rfl rfl)
theorem dX0_loses_10 : decode cX0_loses 10 = .ok (.aload_n 0, 1) := dk_42 (dk_at dksX0_loses_0 10 rfl rfl)
theorem dX0_loses_11 : decode cX0_loses 11 = .ok (.getfield 81, 3) := dk_180 0 81 (dk_at dksX0_loses_0 11 rfl rfl)
theorem dX0_loses_14 : decode cX0_loses 14 = .ok (.aload_n 0, 1) := dk_42 (dk_at dksX0_loses_0 14 rfl rfl)
theorem dX0_loses_15 : decode cX0_loses 15 = .ok (.getfield 109, 3) := dk_180 0 109 (dk_at dksX0_loses_0 15 rfl rfl)
theorem dX0_loses_18 : decode cX0_loses 18 = .ok (.invokevirtual 165, 3) := dk_182 0 165 (dk_at dksX0_loses_0 18 rfl rfl)
theorem dX0_loses_21 : decode cX0_loses 21 = .ok (.iconst 0, 1) := dk_3 (dk_at dksX0_loses_0 21 rfl rfl)
theorem dX0_loses_22 : decode cX0_loses 22 = .ok (.istore_n 2, 1) := dk_61 (dk_at dksX0_loses_0 22 rfl rfl)
theorem dX0_loses_23 : decode cX0_loses 23 = .ok (.iload_n 2, 1) := dk_28 (dk_at dksX0_loses_0 23 rfl rfl)
theorem dX0_loses_24 : decode cX0_loses 24 = .ok (.bipush 60, 2) := dk_16 60 (dk_at dksX0_loses_1 0 rfl rfl)
theorem dX0_loses_26 : decode cX0_loses 26 = .ok (.if_icmp .gt 28, 3) := dk_163 0 28 (dk_at dksX0_loses_1 2 rfl rfl)
theorem dX0_loses_29 : decode cX0_loses 29 = .ok (.aload_n 0, 1) := dk_42 (dk_at dksX0_loses_1 5 rfl rfl)
theorem dX0_loses_30 : decode cX0_loses 30 = .ok (.aload_n 0, 1) := dk_42 (dk_at dksX0_loses_1 6 rfl rfl)
theorem dX0_loses_31 : decode cX0_loses 31 = .ok (.getfield 81, 3) := dk_180 0 81 (dk_at dksX0_loses_1 7 rfl rfl)
theorem dX0_loses_34 : decode cX0_loses 34 = .ok (.iconst 0, 1) := dk_3 (dk_at dksX0_loses_1 10 rfl rfl)
theorem dX0_loses_35 : decode cX0_loses 35 = .ok (.invokevirtual 77, 3) := dk_182 0 77 (dk_at dksX0_loses_1 11 rfl rfl)
theorem dX0_loses_38 : decode cX0_loses 38 = .ok (.aload_n 0, 1) := dk_42 (dk_at dksX0_loses_1 14 rfl rfl)
theorem dX0_loses_39 : decode cX0_loses 39 = .ok (.getfield 31, 3) := dk_180 0 31 (dk_at dksX0_loses_1 15 rfl rfl)
theorem dX0_loses_42 : decode cX0_loses 42 = .ok (.iload_n 1, 1) := dk_27 (dk_at dksX0_loses_1 18 rfl rfl)
theorem dX0_loses_43 : decode cX0_loses 43 = .ok (.if_icmp .ne 5, 3) := dk_160 0 5 (dk_at dksX0_loses_1 19 rfl rfl)
theorem dX0_loses_46 : decode cX0_loses 46 = .ok (.iload_n 2, 1) := dk_28 (dk_at dksX0_loses_1 22 rfl rfl)
theorem dX0_loses_47 : decode cX0_loses 47 = .ok (.ireturn, 1) := dk_172 (dk_at dksX0_loses_1 23 rfl rfl)
theorem dX0_loses_48 : decode cX0_loses 48 = .ok (.iinc 2 1, 3) := dk_132 2 1 (dk_at dksX0_loses_2 0 rfl rfl)
theorem dX0_loses_51 : decode cX0_loses 51 = .ok (.goto (-28), 3) := dk_167 255 228 (dk_at dksX0_loses_2 3 rfl rfl)
theorem dX0_loses_54 : decode cX0_loses 54 = .ok (.bipush (-4), 2) := dk_16 252 (dk_at dksX0_loses_2 6 rfl rfl)
theorem dX0_loses_56 : decode cX0_loses 56 = .ok (.ireturn, 1) := dk_172 (dk_at dksX0_loses_2 8 rfl rfl)
abbrev cX0_order : ByteArray := prog_1_method_42_code
def yX0_order : MethodName := ⟨RX0, "order", "(I)I"⟩
def dkwX0_order_3 : List UInt8 := [162, 0, 15, 42, 180, 0, 126, 27, 16, 10, 100, 46, 167, 0, 5, 16, 252, 172]
abbrev dktX0_order_3 : List UInt8 := dkwX0_order_3 ++ []
def dkwX0_order_2 : List UInt8 := [27, 154, 0, 10, 42, 180, 0, 233, 167, 0, 31, 27, 16, 10, 100, 42, 180, 0, 109, 180, 0, 46]
abbrev dktX0_order_2 : List UInt8 := dkwX0_order_2 ++ dktX0_order_3
def dkwX0_order_1 : List UInt8 := [180, 0, 46, 8, 163, 0, 13, 42, 180, 0, 109, 182, 0, 49, 158, 0, 6, 16, 254, 172, 42, 182, 1, 16]
abbrev dktX0_order_1 : List UInt8 := dkwX0_order_1 ++ dktX0_order_2
def dkwX0_order_0 : List UInt8 := [27, 153, 0, 19, 27, 133, 20, 1, 12, 20, 1, 14, 184, 0, 144, 154, 0, 5, 2, 172, 42, 180, 0, 109]
abbrev dktX0_order_0 : List UInt8 := dkwX0_order_0 ++ dktX0_order_1
theorem dksX0_order_0 : cX0_order.data.toList.drop 0 = dktX0_order_0 := by decide +kernel
theorem dksX0_order_1 : cX0_order.data.toList.drop 24 = dktX0_order_1 := dk_seg dksX0_order_0 24 rfl rfl
theorem dksX0_order_2 : cX0_order.data.toList.drop 48 = dktX0_order_2 := dk_seg dksX0_order_1 24 rfl rfl
theorem dksX0_order_3 : cX0_order.data.toList.drop 70 = dktX0_order_3 := dk_seg dksX0_order_2 22 rfl rfl
theorem dX0_order_0 : decode cX0_order 0 = .ok (.iload_n 1, 1) := dk_27 (dk_at dksX0_order_0 0 rfl rfl)
theorem dX0_order_1 : decode cX0_order 1 = .ok (.ifCond .eq 19, 3) := dk_153 0 19 (dk_at dksX0_order_0 1 rfl rfl)
theorem dX0_order_4 : decode cX0_order 4 = .ok (.iload_n 1, 1) := dk_27 (dk_at dksX0_order_0 4 rfl rfl)
theorem dX0_order_5 : decode cX0_order 5 = .ok (.i2l, 1) := dk_133 (dk_at dksX0_order_0 5 rfl rfl)
theorem dX0_order_6 : decode cX0_order 6 = .ok (.ldc2_w 268, 3) := dk_20 1 12 (dk_at dksX0_order_0 6 rfl rfl)
theorem dX0_order_9 : decode cX0_order 9 = .ok (.ldc2_w 270, 3) := dk_20 1 14 (dk_at dksX0_order_0 9 rfl rfl)
theorem dX0_order_12 : decode cX0_order 12 = .ok (.invokestatic 144, 3) := dk_184 0 144 (dk_at dksX0_order_0 12 rfl rfl)
theorem dX0_order_15 : decode cX0_order 15 = .ok (.ifCond .ne 5, 3) := dk_154 0 5 (dk_at dksX0_order_0 15 rfl rfl)
theorem dX0_order_18 : decode cX0_order 18 = .ok (.iconst (-1), 1) := dk_2 (dk_at dksX0_order_0 18 rfl rfl)
theorem dX0_order_19 : decode cX0_order 19 = .ok (.ireturn, 1) := dk_172 (dk_at dksX0_order_0 19 rfl rfl)
theorem dX0_order_20 : decode cX0_order 20 = .ok (.aload_n 0, 1) := dk_42 (dk_at dksX0_order_0 20 rfl rfl)
theorem dX0_order_21 : decode cX0_order 21 = .ok (.getfield 109, 3) := dk_180 0 109 (dk_at dksX0_order_0 21 rfl rfl)
theorem dX0_order_24 : decode cX0_order 24 = .ok (.getfield 46, 3) := dk_180 0 46 (dk_at dksX0_order_1 0 rfl rfl)
theorem dX0_order_27 : decode cX0_order 27 = .ok (.iconst 5, 1) := dk_8 (dk_at dksX0_order_1 3 rfl rfl)
theorem dX0_order_28 : decode cX0_order 28 = .ok (.if_icmp .gt 13, 3) := dk_163 0 13 (dk_at dksX0_order_1 4 rfl rfl)
theorem dX0_order_31 : decode cX0_order 31 = .ok (.aload_n 0, 1) := dk_42 (dk_at dksX0_order_1 7 rfl rfl)
theorem dX0_order_32 : decode cX0_order 32 = .ok (.getfield 109, 3) := dk_180 0 109 (dk_at dksX0_order_1 8 rfl rfl)
theorem dX0_order_35 : decode cX0_order 35 = .ok (.invokevirtual 49, 3) := dk_182 0 49 (dk_at dksX0_order_1 11 rfl rfl)
theorem dX0_order_38 : decode cX0_order 38 = .ok (.ifCond .le 6, 3) := dk_158 0 6 (dk_at dksX0_order_1 14 rfl rfl)
theorem dX0_order_41 : decode cX0_order 41 = .ok (.bipush (-2), 2) := dk_16 254 (dk_at dksX0_order_1 17 rfl rfl)
theorem dX0_order_43 : decode cX0_order 43 = .ok (.ireturn, 1) := dk_172 (dk_at dksX0_order_1 19 rfl rfl)
theorem dX0_order_44 : decode cX0_order 44 = .ok (.aload_n 0, 1) := dk_42 (dk_at dksX0_order_1 20 rfl rfl)
theorem dX0_order_45 : decode cX0_order 45 = .ok (.invokevirtual 272, 3) := dk_182 1 16 (dk_at dksX0_order_1 21 rfl rfl)
theorem dX0_order_48 : decode cX0_order 48 = .ok (.iload_n 1, 1) := dk_27 (dk_at dksX0_order_2 0 rfl rfl)
theorem dX0_order_49 : decode cX0_order 49 = .ok (.ifCond .ne 10, 3) := dk_154 0 10 (dk_at dksX0_order_2 1 rfl rfl)
theorem dX0_order_52 : decode cX0_order 52 = .ok (.aload_n 0, 1) := dk_42 (dk_at dksX0_order_2 4 rfl rfl)
theorem dX0_order_53 : decode cX0_order 53 = .ok (.getfield 233, 3) := dk_180 0 233 (dk_at dksX0_order_2 5 rfl rfl)
theorem dX0_order_56 : decode cX0_order 56 = .ok (.goto 31, 3) := dk_167 0 31 (dk_at dksX0_order_2 8 rfl rfl)
theorem dX0_order_59 : decode cX0_order 59 = .ok (.iload_n 1, 1) := dk_27 (dk_at dksX0_order_2 11 rfl rfl)
theorem dX0_order_60 : decode cX0_order 60 = .ok (.bipush 10, 2) := dk_16 10 (dk_at dksX0_order_2 12 rfl rfl)
theorem dX0_order_62 : decode cX0_order 62 = .ok (.isub, 1) := dk_100 (dk_at dksX0_order_2 14 rfl rfl)
theorem dX0_order_63 : decode cX0_order 63 = .ok (.aload_n 0, 1) := dk_42 (dk_at dksX0_order_2 15 rfl rfl)
theorem dX0_order_64 : decode cX0_order 64 = .ok (.getfield 109, 3) := dk_180 0 109 (dk_at dksX0_order_2 16 rfl rfl)
theorem dX0_order_67 : decode cX0_order 67 = .ok (.getfield 46, 3) := dk_180 0 46 (dk_at dksX0_order_2 19 rfl rfl)
theorem dX0_order_70 : decode cX0_order 70 = .ok (.if_icmp .ge 15, 3) := dk_162 0 15 (dk_at dksX0_order_3 0 rfl rfl)
theorem dX0_order_73 : decode cX0_order 73 = .ok (.aload_n 0, 1) := dk_42 (dk_at dksX0_order_3 3 rfl rfl)
theorem dX0_order_74 : decode cX0_order 74 = .ok (.getfield 126, 3) := dk_180 0 126 (dk_at dksX0_order_3 4 rfl rfl)
theorem dX0_order_77 : decode cX0_order 77 = .ok (.iload_n 1, 1) := dk_27 (dk_at dksX0_order_3 7 rfl rfl)
theorem dX0_order_78 : decode cX0_order 78 = .ok (.bipush 10, 2) := dk_16 10 (dk_at dksX0_order_3 8 rfl rfl)
theorem dX0_order_80 : decode cX0_order 80 = .ok (.isub, 1) := dk_100 (dk_at dksX0_order_3 10 rfl rfl)
theorem dX0_order_81 : decode cX0_order 81 = .ok (.iaload, 1) := dk_46 (dk_at dksX0_order_3 11 rfl rfl)
theorem dX0_order_82 : decode cX0_order 82 = .ok (.goto 5, 3) := dk_167 0 5 (dk_at dksX0_order_3 12 rfl rfl)
theorem dX0_order_85 : decode cX0_order 85 = .ok (.bipush (-4), 2) := dk_16 252 (dk_at dksX0_order_3 15 rfl rfl)
theorem dX0_order_87 : decode cX0_order 87 = .ok (.ireturn, 1) := dk_172 (dk_at dksX0_order_3 17 rfl rfl)
abbrev cX0_findOrder : ByteArray := prog_1_method_41_code
def yX0_findOrder : MethodName := ⟨RX0, "findOrder", "()V"⟩
def dkwX0_findOrder_5 : List UInt8 := [8, 184, 1, 3, 42, 27, 182, 1, 9, 61, 132, 3, 1, 167, 255, 165, 177]
abbrev dktX0_findOrder_5 : List UInt8 := dkwX0_findOrder_5 ++ []
def dkwX0_findOrder_4 : List UInt8 := [182, 0, 241, 182, 1, 0, 42, 180, 0, 230, 29, 160, 0, 17, 42, 180, 0, 122, 3, 42, 180, 0, 126, 3]
abbrev dktX0_findOrder_4 : List UInt8 := dkwX0_findOrder_4 ++ dktX0_findOrder_5
def dkwX0_findOrder_3 : List UInt8 := [180, 0, 109, 42, 180, 0, 122, 21, 4, 46, 182, 0, 252, 132, 4, 1, 167, 255, 227, 42, 29, 42, 27]
abbrev dktX0_findOrder_3 : List UInt8 := dkwX0_findOrder_3 ++ dktX0_findOrder_4
def dkwX0_findOrder_2 : List UInt8 := [42, 180, 0, 109, 182, 0, 165, 3, 54, 4, 21, 4, 27, 162, 0, 29, 42, 180, 0, 81, 21, 4, 42]
abbrev dktX0_findOrder_2 : List UInt8 := dkwX0_findOrder_2 ++ dktX0_findOrder_3
def dkwX0_findOrder_1 : List UInt8 := [180, 0, 122, 28, 28, 79, 132, 2, 1, 167, 255, 241, 4, 61, 3, 62, 28, 153, 0, 93, 42, 180, 0, 81]
abbrev dktX0_findOrder_1 : List UInt8 := dkwX0_findOrder_1 ++ dktX0_findOrder_2
def dkwX0_findOrder_0 : List UInt8 := [42, 180, 0, 109, 180, 0, 46, 60, 42, 18, 251, 182, 0, 244, 3, 61, 28, 8, 162, 0, 16, 42]
abbrev dktX0_findOrder_0 : List UInt8 := dkwX0_findOrder_0 ++ dktX0_findOrder_1
theorem dksX0_findOrder_0 : cX0_findOrder.data.toList.drop 0 = dktX0_findOrder_0 := by decide +kernel
theorem dksX0_findOrder_1 : cX0_findOrder.data.toList.drop 22 = dktX0_findOrder_1 := dk_seg dksX0_findOrder_0 22 rfl rfl
theorem dksX0_findOrder_2 : cX0_findOrder.data.toList.drop 46 = dktX0_findOrder_2 := dk_seg dksX0_findOrder_1 24 rfl rfl
theorem dksX0_findOrder_3 : cX0_findOrder.data.toList.drop 69 = dktX0_findOrder_3 := dk_seg dksX0_findOrder_2 23 rfl rfl
theorem dksX0_findOrder_4 : cX0_findOrder.data.toList.drop 92 = dktX0_findOrder_4 := dk_seg dksX0_findOrder_3 23 rfl rfl
theorem dksX0_findOrder_5 : cX0_findOrder.data.toList.drop 116 = dktX0_findOrder_5 := dk_seg dksX0_findOrder_4 24 rfl rfl
theorem dX0_findOrder_0 : decode cX0_findOrder 0 = .ok (.aload_n 0, 1) := dk_42 (dk_at dksX0_findOrder_0 0 rfl rfl)
theorem dX0_findOrder_1 : decode cX0_findOrder 1 = .ok (.getfield 109, 3) := dk_180 0 109 (dk_at dksX0_findOrder_0 1 rfl rfl)
theorem dX0_findOrder_4 : decode cX0_findOrder 4 = .ok (.getfield 46, 3) := dk_180 0 46 (dk_at dksX0_findOrder_0 4 rfl rfl)
theorem dX0_findOrder_7 : decode cX0_findOrder 7 = .ok (.istore_n 1, 1) := dk_60 (dk_at dksX0_findOrder_0 7 rfl rfl)
theorem dX0_findOrder_8 : decode cX0_findOrder 8 = .ok (.aload_n 0, 1) := dk_42 (dk_at dksX0_findOrder_0 8 rfl rfl)
theorem dX0_findOrder_9 : decode cX0_findOrder 9 = .ok (.ldc 251, 2) := dk_18 251 (dk_at dksX0_findOrder_0 9 rfl rfl)
theorem dX0_findOrder_11 : decode cX0_findOrder 11 = .ok (.invokevirtual 244, 3) := dk_182 0 244 (dk_at dksX0_findOrder_0 11 rfl rfl)
theorem dX0_findOrder_14 : decode cX0_findOrder 14 = .ok (.iconst 0, 1) := dk_3 (dk_at dksX0_findOrder_0 14 rfl rfl)
theorem dX0_findOrder_15 : decode cX0_findOrder 15 = .ok (.istore_n 2, 1) := dk_61 (dk_at dksX0_findOrder_0 15 rfl rfl)
theorem dX0_findOrder_16 : decode cX0_findOrder 16 = .ok (.iload_n 2, 1) := dk_28 (dk_at dksX0_findOrder_0 16 rfl rfl)
theorem dX0_findOrder_17 : decode cX0_findOrder 17 = .ok (.iconst 5, 1) := dk_8 (dk_at dksX0_findOrder_0 17 rfl rfl)
theorem dX0_findOrder_18 : decode cX0_findOrder 18 = .ok (.if_icmp .ge 16, 3) := dk_162 0 16 (dk_at dksX0_findOrder_0 18 rfl rfl)
theorem dX0_findOrder_21 : decode cX0_findOrder 21 = .ok (.aload_n 0, 1) := dk_42 (dk_at dksX0_findOrder_0 21 rfl rfl)
theorem dX0_findOrder_22 : decode cX0_findOrder 22 = .ok (.getfield 122, 3) := dk_180 0 122 (dk_at dksX0_findOrder_1 0 rfl rfl)
theorem dX0_findOrder_25 : decode cX0_findOrder 25 = .ok (.iload_n 2, 1) := dk_28 (dk_at dksX0_findOrder_1 3 rfl rfl)
theorem dX0_findOrder_26 : decode cX0_findOrder 26 = .ok (.iload_n 2, 1) := dk_28 (dk_at dksX0_findOrder_1 4 rfl rfl)
theorem dX0_findOrder_27 : decode cX0_findOrder 27 = .ok (.iastore, 1) := dk_79 (dk_at dksX0_findOrder_1 5 rfl rfl)
theorem dX0_findOrder_28 : decode cX0_findOrder 28 = .ok (.iinc 2 1, 3) := dk_132 2 1 (dk_at dksX0_findOrder_1 6 rfl rfl)
theorem dX0_findOrder_31 : decode cX0_findOrder 31 = .ok (.goto (-15), 3) := dk_167 255 241 (dk_at dksX0_findOrder_1 9 rfl rfl)
theorem dX0_findOrder_34 : decode cX0_findOrder 34 = .ok (.iconst 1, 1) := dk_4 (dk_at dksX0_findOrder_1 12 rfl rfl)
theorem dX0_findOrder_35 : decode cX0_findOrder 35 = .ok (.istore_n 2, 1) := dk_61 (dk_at dksX0_findOrder_1 13 rfl rfl)
theorem dX0_findOrder_36 : decode cX0_findOrder 36 = .ok (.iconst 0, 1) := dk_3 (dk_at dksX0_findOrder_1 14 rfl rfl)
theorem dX0_findOrder_37 : decode cX0_findOrder 37 = .ok (.istore_n 3, 1) := dk_62 (dk_at dksX0_findOrder_1 15 rfl rfl)
theorem dX0_findOrder_38 : decode cX0_findOrder 38 = .ok (.iload_n 2, 1) := dk_28 (dk_at dksX0_findOrder_1 16 rfl rfl)
theorem dX0_findOrder_39 : decode cX0_findOrder 39 = .ok (.ifCond .eq 93, 3) := dk_153 0 93 (dk_at dksX0_findOrder_1 17 rfl rfl)
theorem dX0_findOrder_42 : decode cX0_findOrder 42 = .ok (.aload_n 0, 1) := dk_42 (dk_at dksX0_findOrder_1 20 rfl rfl)
theorem dX0_findOrder_43 : decode cX0_findOrder 43 = .ok (.getfield 81, 3) := dk_180 0 81 (dk_at dksX0_findOrder_1 21 rfl rfl)
theorem dX0_findOrder_46 : decode cX0_findOrder 46 = .ok (.aload_n 0, 1) := dk_42 (dk_at dksX0_findOrder_2 0 rfl rfl)
theorem dX0_findOrder_47 : decode cX0_findOrder 47 = .ok (.getfield 109, 3) := dk_180 0 109 (dk_at dksX0_findOrder_2 1 rfl rfl)
theorem dX0_findOrder_50 : decode cX0_findOrder 50 = .ok (.invokevirtual 165, 3) := dk_182 0 165 (dk_at dksX0_findOrder_2 4 rfl rfl)
theorem dX0_findOrder_53 : decode cX0_findOrder 53 = .ok (.iconst 0, 1) := dk_3 (dk_at dksX0_findOrder_2 7 rfl rfl)
theorem dX0_findOrder_54 : decode cX0_findOrder 54 = .ok (.istore 4, 2) := dk_54 4 (dk_at dksX0_findOrder_2 8 rfl rfl)
theorem dX0_findOrder_56 : decode cX0_findOrder 56 = .ok (.iload 4, 2) := dk_21 4 (dk_at dksX0_findOrder_2 10 rfl rfl)
theorem dX0_findOrder_58 : decode cX0_findOrder 58 = .ok (.iload_n 1, 1) := dk_27 (dk_at dksX0_findOrder_2 12 rfl rfl)
theorem dX0_findOrder_59 : decode cX0_findOrder 59 = .ok (.if_icmp .ge 29, 3) := dk_162 0 29 (dk_at dksX0_findOrder_2 13 rfl rfl)
theorem dX0_findOrder_62 : decode cX0_findOrder 62 = .ok (.aload_n 0, 1) := dk_42 (dk_at dksX0_findOrder_2 16 rfl rfl)
theorem dX0_findOrder_63 : decode cX0_findOrder 63 = .ok (.getfield 81, 3) := dk_180 0 81 (dk_at dksX0_findOrder_2 17 rfl rfl)
theorem dX0_findOrder_66 : decode cX0_findOrder 66 = .ok (.iload 4, 2) := dk_21 4 (dk_at dksX0_findOrder_2 20 rfl rfl)
theorem dX0_findOrder_68 : decode cX0_findOrder 68 = .ok (.aload_n 0, 1) := dk_42 (dk_at dksX0_findOrder_2 22 rfl rfl)
theorem dX0_findOrder_69 : decode cX0_findOrder 69 = .ok (.getfield 109, 3) := dk_180 0 109 (dk_at dksX0_findOrder_3 0 rfl rfl)
theorem dX0_findOrder_72 : decode cX0_findOrder 72 = .ok (.aload_n 0, 1) := dk_42 (dk_at dksX0_findOrder_3 3 rfl rfl)
theorem dX0_findOrder_73 : decode cX0_findOrder 73 = .ok (.getfield 122, 3) := dk_180 0 122 (dk_at dksX0_findOrder_3 4 rfl rfl)
theorem dX0_findOrder_76 : decode cX0_findOrder 76 = .ok (.iload 4, 2) := dk_21 4 (dk_at dksX0_findOrder_3 7 rfl rfl)
theorem dX0_findOrder_78 : decode cX0_findOrder 78 = .ok (.iaload, 1) := dk_46 (dk_at dksX0_findOrder_3 9 rfl rfl)
theorem dX0_findOrder_79 : decode cX0_findOrder 79 = .ok (.invokevirtual 252, 3) := dk_182 0 252 (dk_at dksX0_findOrder_3 10 rfl rfl)
theorem dX0_findOrder_82 : decode cX0_findOrder 82 = .ok (.iinc 4 1, 3) := dk_132 4 1 (dk_at dksX0_findOrder_3 13 rfl rfl)
theorem dX0_findOrder_85 : decode cX0_findOrder 85 = .ok (.goto (-29), 3) := dk_167 255 227 (dk_at dksX0_findOrder_3 16 rfl rfl)
theorem dX0_findOrder_88 : decode cX0_findOrder 88 = .ok (.aload_n 0, 1) := dk_42 (dk_at dksX0_findOrder_3 19 rfl rfl)
theorem dX0_findOrder_89 : decode cX0_findOrder 89 = .ok (.iload_n 3, 1) := dk_29 (dk_at dksX0_findOrder_3 20 rfl rfl)
theorem dX0_findOrder_90 : decode cX0_findOrder 90 = .ok (.aload_n 0, 1) := dk_42 (dk_at dksX0_findOrder_3 21 rfl rfl)
theorem dX0_findOrder_91 : decode cX0_findOrder 91 = .ok (.iload_n 1, 1) := dk_27 (dk_at dksX0_findOrder_3 22 rfl rfl)
theorem dX0_findOrder_92 : decode cX0_findOrder 92 = .ok (.invokevirtual 241, 3) := dk_182 0 241 (dk_at dksX0_findOrder_4 0 rfl rfl)
theorem dX0_findOrder_95 : decode cX0_findOrder 95 = .ok (.invokevirtual 256, 3) := dk_182 1 0 (dk_at dksX0_findOrder_4 3 rfl rfl)
theorem dX0_findOrder_98 : decode cX0_findOrder 98 = .ok (.aload_n 0, 1) := dk_42 (dk_at dksX0_findOrder_4 6 rfl rfl)
theorem dX0_findOrder_99 : decode cX0_findOrder 99 = .ok (.getfield 230, 3) := dk_180 0 230 (dk_at dksX0_findOrder_4 7 rfl rfl)
theorem dX0_findOrder_102 : decode cX0_findOrder 102 = .ok (.iload_n 3, 1) := dk_29 (dk_at dksX0_findOrder_4 10 rfl rfl)
theorem dX0_findOrder_103 : decode cX0_findOrder 103 = .ok (.if_icmp .ne 17, 3) := dk_160 0 17 (dk_at dksX0_findOrder_4 11 rfl rfl)
theorem dX0_findOrder_106 : decode cX0_findOrder 106 = .ok (.aload_n 0, 1) := dk_42 (dk_at dksX0_findOrder_4 14 rfl rfl)
theorem dX0_findOrder_107 : decode cX0_findOrder 107 = .ok (.getfield 122, 3) := dk_180 0 122 (dk_at dksX0_findOrder_4 15 rfl rfl)
theorem dX0_findOrder_110 : decode cX0_findOrder 110 = .ok (.iconst 0, 1) := dk_3 (dk_at dksX0_findOrder_4 18 rfl rfl)
theorem dX0_findOrder_111 : decode cX0_findOrder 111 = .ok (.aload_n 0, 1) := dk_42 (dk_at dksX0_findOrder_4 19 rfl rfl)
theorem dX0_findOrder_112 : decode cX0_findOrder 112 = .ok (.getfield 126, 3) := dk_180 0 126 (dk_at dksX0_findOrder_4 20 rfl rfl)
theorem dX0_findOrder_115 : decode cX0_findOrder 115 = .ok (.iconst 0, 1) := dk_3 (dk_at dksX0_findOrder_4 23 rfl rfl)
theorem dX0_findOrder_116 : decode cX0_findOrder 116 = .ok (.iconst 5, 1) := dk_8 (dk_at dksX0_findOrder_5 0 rfl rfl)
theorem dX0_findOrder_117 : decode cX0_findOrder 117 = .ok (.invokestatic 259, 3) := dk_184 1 3 (dk_at dksX0_findOrder_5 1 rfl rfl)
theorem dX0_findOrder_120 : decode cX0_findOrder 120 = .ok (.aload_n 0, 1) := dk_42 (dk_at dksX0_findOrder_5 4 rfl rfl)
theorem dX0_findOrder_121 : decode cX0_findOrder 121 = .ok (.iload_n 1, 1) := dk_27 (dk_at dksX0_findOrder_5 5 rfl rfl)
theorem dX0_findOrder_122 : decode cX0_findOrder 122 = .ok (.invokevirtual 265, 3) := dk_182 1 9 (dk_at dksX0_findOrder_5 6 rfl rfl)
theorem dX0_findOrder_125 : decode cX0_findOrder 125 = .ok (.istore_n 2, 1) := dk_61 (dk_at dksX0_findOrder_5 9 rfl rfl)
theorem dX0_findOrder_126 : decode cX0_findOrder 126 = .ok (.iinc 3 1, 3) := dk_132 3 1 (dk_at dksX0_findOrder_5 10 rfl rfl)
theorem dX0_findOrder_129 : decode cX0_findOrder 129 = .ok (.goto (-91), 3) := dk_167 255 165 (dk_at dksX0_findOrder_5 13 rfl rfl)
theorem dX0_findOrder_132 : decode cX0_findOrder 132 = .ok (.return_, 1) := dk_177 (dk_at dksX0_findOrder_5 16 rfl rfl)
abbrev cX0_startsJudging : ByteArray := prog_1_method_35_code
def yX0_startsJudging : MethodName := ⟨RX0, "startsJudging", "(I)V"⟩
def dkwX0_startsJudging_0 : List UInt8 := [42, 16, 252, 181, 0, 230, 42, 27, 181, 0, 233, 177]
abbrev dktX0_startsJudging_0 : List UInt8 := dkwX0_startsJudging_0 ++ []
theorem dksX0_startsJudging_0 : cX0_startsJudging.data.toList.drop 0 = dktX0_startsJudging_0 := by decide +kernel
theorem dX0_startsJudging_0 : decode cX0_startsJudging 0 = .ok (.aload_n 0, 1) := dk_42 (dk_at dksX0_startsJudging_0 0 rfl rfl)
theorem dX0_startsJudging_1 : decode cX0_startsJudging 1 = .ok (.bipush (-4), 2) := dk_16 252 (dk_at dksX0_startsJudging_0 1 rfl rfl)
theorem dX0_startsJudging_3 : decode cX0_startsJudging 3 = .ok (.putfield 230, 3) := dk_181 0 230 (dk_at dksX0_startsJudging_0 3 rfl rfl)
theorem dX0_startsJudging_6 : decode cX0_startsJudging 6 = .ok (.aload_n 0, 1) := dk_42 (dk_at dksX0_startsJudging_0 6 rfl rfl)
theorem dX0_startsJudging_7 : decode cX0_startsJudging 7 = .ok (.iload_n 1, 1) := dk_27 (dk_at dksX0_startsJudging_0 7 rfl rfl)
theorem dX0_startsJudging_8 : decode cX0_startsJudging 8 = .ok (.putfield 233, 3) := dk_181 0 233 (dk_at dksX0_startsJudging_0 8 rfl rfl)
theorem dX0_startsJudging_11 : decode cX0_startsJudging 11 = .ok (.return_, 1) := dk_177 (dk_at dksX0_startsJudging_0 11 rfl rfl)
abbrev cX0_owedByTried : ByteArray := prog_1_method_10_code
def yX0_owedByTried : MethodName := ⟨RX0, "owedByTried", "(I)I"⟩
def dkwX0_owedByTried_0 : List UInt8 := [42, 42, 180, 0, 81, 27, 182, 0, 85, 42, 180, 0, 81, 6, 182, 0, 89, 172]
abbrev dktX0_owedByTried_0 : List UInt8 := dkwX0_owedByTried_0 ++ []
theorem dksX0_owedByTried_0 : cX0_owedByTried.data.toList.drop 0 = dktX0_owedByTried_0 := by decide +kernel
theorem dX0_owedByTried_0 : decode cX0_owedByTried 0 = .ok (.aload_n 0, 1) := dk_42 (dk_at dksX0_owedByTried_0 0 rfl rfl)
theorem dX0_owedByTried_1 : decode cX0_owedByTried 1 = .ok (.aload_n 0, 1) := dk_42 (dk_at dksX0_owedByTried_0 1 rfl rfl)
theorem dX0_owedByTried_2 : decode cX0_owedByTried 2 = .ok (.getfield 81, 3) := dk_180 0 81 (dk_at dksX0_owedByTried_0 2 rfl rfl)
theorem dX0_owedByTried_5 : decode cX0_owedByTried 5 = .ok (.iload_n 1, 1) := dk_27 (dk_at dksX0_owedByTried_0 5 rfl rfl)
theorem dX0_owedByTried_6 : decode cX0_owedByTried 6 = .ok (.invokevirtual 85, 3) := dk_182 0 85 (dk_at dksX0_owedByTried_0 6 rfl rfl)
theorem dX0_owedByTried_9 : decode cX0_owedByTried 9 = .ok (.aload_n 0, 1) := dk_42 (dk_at dksX0_owedByTried_0 9 rfl rfl)
theorem dX0_owedByTried_10 : decode cX0_owedByTried 10 = .ok (.getfield 81, 3) := dk_180 0 81 (dk_at dksX0_owedByTried_0 10 rfl rfl)
theorem dX0_owedByTried_13 : decode cX0_owedByTried 13 = .ok (.iconst 3, 1) := dk_6 (dk_at dksX0_owedByTried_0 13 rfl rfl)
theorem dX0_owedByTried_14 : decode cX0_owedByTried 14 = .ok (.invokevirtual 89, 3) := dk_182 0 89 (dk_at dksX0_owedByTried_0 14 rfl rfl)
theorem dX0_owedByTried_17 : decode cX0_owedByTried 17 = .ok (.ireturn, 1) := dk_172 (dk_at dksX0_owedByTried_0 17 rfl rfl)
abbrev cX0_judges : ByteArray := prog_1_method_36_code
def yX0_judges : MethodName := ⟨RX0, "judges", "(II)V"⟩
def dkwX0_judges_1 : List UInt8 := [180, 0, 233, 28, 184, 0, 236, 181, 0, 233, 177]
abbrev dktX0_judges_1 : List UInt8 := dkwX0_judges_1 ++ []
def dkwX0_judges_0 : List UInt8 := [42, 28, 42, 180, 0, 233, 162, 0, 7, 27, 167, 0, 7, 42, 180, 0, 230, 181, 0, 230, 42, 42]
abbrev dktX0_judges_0 : List UInt8 := dkwX0_judges_0 ++ dktX0_judges_1
theorem dksX0_judges_0 : cX0_judges.data.toList.drop 0 = dktX0_judges_0 := by decide +kernel
theorem dksX0_judges_1 : cX0_judges.data.toList.drop 22 = dktX0_judges_1 := dk_seg dksX0_judges_0 22 rfl rfl
theorem dX0_judges_0 : decode cX0_judges 0 = .ok (.aload_n 0, 1) := dk_42 (dk_at dksX0_judges_0 0 rfl rfl)
theorem dX0_judges_1 : decode cX0_judges 1 = .ok (.iload_n 2, 1) := dk_28 (dk_at dksX0_judges_0 1 rfl rfl)
theorem dX0_judges_2 : decode cX0_judges 2 = .ok (.aload_n 0, 1) := dk_42 (dk_at dksX0_judges_0 2 rfl rfl)
theorem dX0_judges_3 : decode cX0_judges 3 = .ok (.getfield 233, 3) := dk_180 0 233 (dk_at dksX0_judges_0 3 rfl rfl)
theorem dX0_judges_6 : decode cX0_judges 6 = .ok (.if_icmp .ge 7, 3) := dk_162 0 7 (dk_at dksX0_judges_0 6 rfl rfl)
theorem dX0_judges_9 : decode cX0_judges 9 = .ok (.iload_n 1, 1) := dk_27 (dk_at dksX0_judges_0 9 rfl rfl)
theorem dX0_judges_10 : decode cX0_judges 10 = .ok (.goto 7, 3) := dk_167 0 7 (dk_at dksX0_judges_0 10 rfl rfl)
theorem dX0_judges_13 : decode cX0_judges 13 = .ok (.aload_n 0, 1) := dk_42 (dk_at dksX0_judges_0 13 rfl rfl)
theorem dX0_judges_14 : decode cX0_judges 14 = .ok (.getfield 230, 3) := dk_180 0 230 (dk_at dksX0_judges_0 14 rfl rfl)
theorem dX0_judges_17 : decode cX0_judges 17 = .ok (.putfield 230, 3) := dk_181 0 230 (dk_at dksX0_judges_0 17 rfl rfl)
theorem dX0_judges_20 : decode cX0_judges 20 = .ok (.aload_n 0, 1) := dk_42 (dk_at dksX0_judges_0 20 rfl rfl)
theorem dX0_judges_21 : decode cX0_judges 21 = .ok (.aload_n 0, 1) := dk_42 (dk_at dksX0_judges_0 21 rfl rfl)
theorem dX0_judges_22 : decode cX0_judges 22 = .ok (.getfield 233, 3) := dk_180 0 233 (dk_at dksX0_judges_1 0 rfl rfl)
theorem dX0_judges_25 : decode cX0_judges 25 = .ok (.iload_n 2, 1) := dk_28 (dk_at dksX0_judges_1 3 rfl rfl)
theorem dX0_judges_26 : decode cX0_judges 26 = .ok (.invokestatic 236, 3) := dk_184 0 236 (dk_at dksX0_judges_1 4 rfl rfl)
theorem dX0_judges_29 : decode cX0_judges 29 = .ok (.putfield 233, 3) := dk_181 0 233 (dk_at dksX0_judges_1 7 rfl rfl)
theorem dX0_judges_32 : decode cX0_judges 32 = .ok (.return_, 1) := dk_177 (dk_at dksX0_judges_1 10 rfl rfl)
abbrev cX0_goesOn : ByteArray := prog_1_method_40_code
def yX0_goesOn : MethodName := ⟨RX0, "goesOn", "(I)Z"⟩
def dkwX0_goesOn_4 : List UInt8 := [132, 4, 1, 132, 5, 255, 167, 255, 235, 4, 172]
abbrev dktX0_goesOn_4 : List UInt8 := dkwX0_goesOn_4 ++ []
def dkwX0_goesOn_3 : List UInt8 := [96, 54, 4, 27, 4, 100, 54, 5, 21, 4, 21, 5, 162, 0, 20, 42, 21, 4, 21, 5, 182, 0, 248]
abbrev dktX0_goesOn_3 : List UInt8 := dkwX0_goesOn_3 ++ dktX0_goesOn_4
def dkwX0_goesOn_2 : List UInt8 := [46, 42, 180, 0, 122, 28, 46, 162, 0, 9, 132, 3, 255, 167, 255, 238, 42, 28, 29, 182, 0, 248, 28, 4]
abbrev dktX0_goesOn_2 : List UInt8 := dkwX0_goesOn_2 ++ dktX0_goesOn_3
def dkwX0_goesOn_1 : List UInt8 := [164, 0, 9, 132, 2, 255, 167, 255, 232, 28, 156, 0, 5, 3, 172, 27, 4, 100, 62, 42, 180, 0, 122, 29]
abbrev dktX0_goesOn_1 : List UInt8 := dkwX0_goesOn_1 ++ dktX0_goesOn_2
def dkwX0_goesOn_0 : List UInt8 := [27, 5, 100, 61, 28, 155, 0, 26, 42, 180, 0, 122, 28, 46, 42, 180, 0, 122, 28, 4, 96, 46]
abbrev dktX0_goesOn_0 : List UInt8 := dkwX0_goesOn_0 ++ dktX0_goesOn_1
theorem dksX0_goesOn_0 : cX0_goesOn.data.toList.drop 0 = dktX0_goesOn_0 := by decide +kernel
theorem dksX0_goesOn_1 : cX0_goesOn.data.toList.drop 22 = dktX0_goesOn_1 := dk_seg dksX0_goesOn_0 22 rfl rfl
theorem dksX0_goesOn_2 : cX0_goesOn.data.toList.drop 46 = dktX0_goesOn_2 := dk_seg dksX0_goesOn_1 24 rfl rfl
theorem dksX0_goesOn_3 : cX0_goesOn.data.toList.drop 70 = dktX0_goesOn_3 := dk_seg dksX0_goesOn_2 24 rfl rfl
theorem dksX0_goesOn_4 : cX0_goesOn.data.toList.drop 93 = dktX0_goesOn_4 := dk_seg dksX0_goesOn_3 23 rfl rfl
theorem dX0_goesOn_0 : decode cX0_goesOn 0 = .ok (.iload_n 1, 1) := dk_27 (dk_at dksX0_goesOn_0 0 rfl rfl)
theorem dX0_goesOn_1 : decode cX0_goesOn 1 = .ok (.iconst 2, 1) := dk_5 (dk_at dksX0_goesOn_0 1 rfl rfl)
theorem dX0_goesOn_2 : decode cX0_goesOn 2 = .ok (.isub, 1) := dk_100 (dk_at dksX0_goesOn_0 2 rfl rfl)
theorem dX0_goesOn_3 : decode cX0_goesOn 3 = .ok (.istore_n 2, 1) := dk_61 (dk_at dksX0_goesOn_0 3 rfl rfl)
theorem dX0_goesOn_4 : decode cX0_goesOn 4 = .ok (.iload_n 2, 1) := dk_28 (dk_at dksX0_goesOn_0 4 rfl rfl)
theorem dX0_goesOn_5 : decode cX0_goesOn 5 = .ok (.ifCond .lt 26, 3) := dk_155 0 26 (dk_at dksX0_goesOn_0 5 rfl rfl)
theorem dX0_goesOn_8 : decode cX0_goesOn 8 = .ok (.aload_n 0, 1) := dk_42 (dk_at dksX0_goesOn_0 8 rfl rfl)
theorem dX0_goesOn_9 : decode cX0_goesOn 9 = .ok (.getfield 122, 3) := dk_180 0 122 (dk_at dksX0_goesOn_0 9 rfl rfl)
theorem dX0_goesOn_12 : decode cX0_goesOn 12 = .ok (.iload_n 2, 1) := dk_28 (dk_at dksX0_goesOn_0 12 rfl rfl)
theorem dX0_goesOn_13 : decode cX0_goesOn 13 = .ok (.iaload, 1) := dk_46 (dk_at dksX0_goesOn_0 13 rfl rfl)
theorem dX0_goesOn_14 : decode cX0_goesOn 14 = .ok (.aload_n 0, 1) := dk_42 (dk_at dksX0_goesOn_0 14 rfl rfl)
theorem dX0_goesOn_15 : decode cX0_goesOn 15 = .ok (.getfield 122, 3) := dk_180 0 122 (dk_at dksX0_goesOn_0 15 rfl rfl)
theorem dX0_goesOn_18 : decode cX0_goesOn 18 = .ok (.iload_n 2, 1) := dk_28 (dk_at dksX0_goesOn_0 18 rfl rfl)
theorem dX0_goesOn_19 : decode cX0_goesOn 19 = .ok (.iconst 1, 1) := dk_4 (dk_at dksX0_goesOn_0 19 rfl rfl)
theorem dX0_goesOn_20 : decode cX0_goesOn 20 = .ok (.iadd, 1) := dk_96 (dk_at dksX0_goesOn_0 20 rfl rfl)
theorem dX0_goesOn_21 : decode cX0_goesOn 21 = .ok (.iaload, 1) := dk_46 (dk_at dksX0_goesOn_0 21 rfl rfl)
theorem dX0_goesOn_22 : decode cX0_goesOn 22 = .ok (.if_icmp .le 9, 3) := dk_164 0 9 (dk_at dksX0_goesOn_1 0 rfl rfl)
theorem dX0_goesOn_25 : decode cX0_goesOn 25 = .ok (.iinc 2 (-1), 3) := dk_132 2 255 (dk_at dksX0_goesOn_1 3 rfl rfl)
theorem dX0_goesOn_28 : decode cX0_goesOn 28 = .ok (.goto (-24), 3) := dk_167 255 232 (dk_at dksX0_goesOn_1 6 rfl rfl)
theorem dX0_goesOn_31 : decode cX0_goesOn 31 = .ok (.iload_n 2, 1) := dk_28 (dk_at dksX0_goesOn_1 9 rfl rfl)
theorem dX0_goesOn_32 : decode cX0_goesOn 32 = .ok (.ifCond .ge 5, 3) := dk_156 0 5 (dk_at dksX0_goesOn_1 10 rfl rfl)
theorem dX0_goesOn_35 : decode cX0_goesOn 35 = .ok (.iconst 0, 1) := dk_3 (dk_at dksX0_goesOn_1 13 rfl rfl)
theorem dX0_goesOn_36 : decode cX0_goesOn 36 = .ok (.ireturn, 1) := dk_172 (dk_at dksX0_goesOn_1 14 rfl rfl)
theorem dX0_goesOn_37 : decode cX0_goesOn 37 = .ok (.iload_n 1, 1) := dk_27 (dk_at dksX0_goesOn_1 15 rfl rfl)
theorem dX0_goesOn_38 : decode cX0_goesOn 38 = .ok (.iconst 1, 1) := dk_4 (dk_at dksX0_goesOn_1 16 rfl rfl)
theorem dX0_goesOn_39 : decode cX0_goesOn 39 = .ok (.isub, 1) := dk_100 (dk_at dksX0_goesOn_1 17 rfl rfl)
theorem dX0_goesOn_40 : decode cX0_goesOn 40 = .ok (.istore_n 3, 1) := dk_62 (dk_at dksX0_goesOn_1 18 rfl rfl)
theorem dX0_goesOn_41 : decode cX0_goesOn 41 = .ok (.aload_n 0, 1) := dk_42 (dk_at dksX0_goesOn_1 19 rfl rfl)
theorem dX0_goesOn_42 : decode cX0_goesOn 42 = .ok (.getfield 122, 3) := dk_180 0 122 (dk_at dksX0_goesOn_1 20 rfl rfl)
theorem dX0_goesOn_45 : decode cX0_goesOn 45 = .ok (.iload_n 3, 1) := dk_29 (dk_at dksX0_goesOn_1 23 rfl rfl)
theorem dX0_goesOn_46 : decode cX0_goesOn 46 = .ok (.iaload, 1) := dk_46 (dk_at dksX0_goesOn_2 0 rfl rfl)
theorem dX0_goesOn_47 : decode cX0_goesOn 47 = .ok (.aload_n 0, 1) := dk_42 (dk_at dksX0_goesOn_2 1 rfl rfl)
theorem dX0_goesOn_48 : decode cX0_goesOn 48 = .ok (.getfield 122, 3) := dk_180 0 122 (dk_at dksX0_goesOn_2 2 rfl rfl)
theorem dX0_goesOn_51 : decode cX0_goesOn 51 = .ok (.iload_n 2, 1) := dk_28 (dk_at dksX0_goesOn_2 5 rfl rfl)
theorem dX0_goesOn_52 : decode cX0_goesOn 52 = .ok (.iaload, 1) := dk_46 (dk_at dksX0_goesOn_2 6 rfl rfl)
theorem dX0_goesOn_53 : decode cX0_goesOn 53 = .ok (.if_icmp .ge 9, 3) := dk_162 0 9 (dk_at dksX0_goesOn_2 7 rfl rfl)
theorem dX0_goesOn_56 : decode cX0_goesOn 56 = .ok (.iinc 3 (-1), 3) := dk_132 3 255 (dk_at dksX0_goesOn_2 10 rfl rfl)
theorem dX0_goesOn_59 : decode cX0_goesOn 59 = .ok (.goto (-18), 3) := dk_167 255 238 (dk_at dksX0_goesOn_2 13 rfl rfl)
theorem dX0_goesOn_62 : decode cX0_goesOn 62 = .ok (.aload_n 0, 1) := dk_42 (dk_at dksX0_goesOn_2 16 rfl rfl)
theorem dX0_goesOn_63 : decode cX0_goesOn 63 = .ok (.iload_n 2, 1) := dk_28 (dk_at dksX0_goesOn_2 17 rfl rfl)
theorem dX0_goesOn_64 : decode cX0_goesOn 64 = .ok (.iload_n 3, 1) := dk_29 (dk_at dksX0_goesOn_2 18 rfl rfl)
theorem dX0_goesOn_65 : decode cX0_goesOn 65 = .ok (.invokevirtual 248, 3) := dk_182 0 248 (dk_at dksX0_goesOn_2 19 rfl rfl)
theorem dX0_goesOn_68 : decode cX0_goesOn 68 = .ok (.iload_n 2, 1) := dk_28 (dk_at dksX0_goesOn_2 22 rfl rfl)
theorem dX0_goesOn_69 : decode cX0_goesOn 69 = .ok (.iconst 1, 1) := dk_4 (dk_at dksX0_goesOn_2 23 rfl rfl)
theorem dX0_goesOn_70 : decode cX0_goesOn 70 = .ok (.iadd, 1) := dk_96 (dk_at dksX0_goesOn_3 0 rfl rfl)
theorem dX0_goesOn_71 : decode cX0_goesOn 71 = .ok (.istore 4, 2) := dk_54 4 (dk_at dksX0_goesOn_3 1 rfl rfl)
theorem dX0_goesOn_73 : decode cX0_goesOn 73 = .ok (.iload_n 1, 1) := dk_27 (dk_at dksX0_goesOn_3 3 rfl rfl)
theorem dX0_goesOn_74 : decode cX0_goesOn 74 = .ok (.iconst 1, 1) := dk_4 (dk_at dksX0_goesOn_3 4 rfl rfl)
theorem dX0_goesOn_75 : decode cX0_goesOn 75 = .ok (.isub, 1) := dk_100 (dk_at dksX0_goesOn_3 5 rfl rfl)
theorem dX0_goesOn_76 : decode cX0_goesOn 76 = .ok (.istore 5, 2) := dk_54 5 (dk_at dksX0_goesOn_3 6 rfl rfl)
theorem dX0_goesOn_78 : decode cX0_goesOn 78 = .ok (.iload 4, 2) := dk_21 4 (dk_at dksX0_goesOn_3 8 rfl rfl)
theorem dX0_goesOn_80 : decode cX0_goesOn 80 = .ok (.iload 5, 2) := dk_21 5 (dk_at dksX0_goesOn_3 10 rfl rfl)
theorem dX0_goesOn_82 : decode cX0_goesOn 82 = .ok (.if_icmp .ge 20, 3) := dk_162 0 20 (dk_at dksX0_goesOn_3 12 rfl rfl)
theorem dX0_goesOn_85 : decode cX0_goesOn 85 = .ok (.aload_n 0, 1) := dk_42 (dk_at dksX0_goesOn_3 15 rfl rfl)
theorem dX0_goesOn_86 : decode cX0_goesOn 86 = .ok (.iload 4, 2) := dk_21 4 (dk_at dksX0_goesOn_3 16 rfl rfl)
theorem dX0_goesOn_88 : decode cX0_goesOn 88 = .ok (.iload 5, 2) := dk_21 5 (dk_at dksX0_goesOn_3 18 rfl rfl)
theorem dX0_goesOn_90 : decode cX0_goesOn 90 = .ok (.invokevirtual 248, 3) := dk_182 0 248 (dk_at dksX0_goesOn_3 20 rfl rfl)
theorem dX0_goesOn_93 : decode cX0_goesOn 93 = .ok (.iinc 4 1, 3) := dk_132 4 1 (dk_at dksX0_goesOn_4 0 rfl rfl)
theorem dX0_goesOn_96 : decode cX0_goesOn 96 = .ok (.iinc 5 (-1), 3) := dk_132 5 255 (dk_at dksX0_goesOn_4 3 rfl rfl)
theorem dX0_goesOn_99 : decode cX0_goesOn 99 = .ok (.goto (-21), 3) := dk_167 255 235 (dk_at dksX0_goesOn_4 6 rfl rfl)
theorem dX0_goesOn_102 : decode cX0_goesOn 102 = .ok (.iconst 1, 1) := dk_4 (dk_at dksX0_goesOn_4 9 rfl rfl)
theorem dX0_goesOn_103 : decode cX0_goesOn 103 = .ok (.ireturn, 1) := dk_172 (dk_at dksX0_goesOn_4 10 rfl rfl)
abbrev cX0_trades : ByteArray := prog_1_method_39_code
def yX0_trades : MethodName := ⟨RX0, "trades", "(II)V"⟩
def dkwX0_trades_1 : List UInt8 := [29, 79, 177]
abbrev dktX0_trades_1 : List UInt8 := dkwX0_trades_1 ++ []
def dkwX0_trades_0 : List UInt8 := [42, 180, 0, 122, 27, 46, 62, 42, 180, 0, 122, 27, 42, 180, 0, 122, 28, 46, 79, 42, 180, 0, 122, 28]
abbrev dktX0_trades_0 : List UInt8 := dkwX0_trades_0 ++ dktX0_trades_1
theorem dksX0_trades_0 : cX0_trades.data.toList.drop 0 = dktX0_trades_0 := by decide +kernel
theorem dksX0_trades_1 : cX0_trades.data.toList.drop 24 = dktX0_trades_1 := dk_seg dksX0_trades_0 24 rfl rfl
theorem dX0_trades_0 : decode cX0_trades 0 = .ok (.aload_n 0, 1) := dk_42 (dk_at dksX0_trades_0 0 rfl rfl)
theorem dX0_trades_1 : decode cX0_trades 1 = .ok (.getfield 122, 3) := dk_180 0 122 (dk_at dksX0_trades_0 1 rfl rfl)
theorem dX0_trades_4 : decode cX0_trades 4 = .ok (.iload_n 1, 1) := dk_27 (dk_at dksX0_trades_0 4 rfl rfl)
theorem dX0_trades_5 : decode cX0_trades 5 = .ok (.iaload, 1) := dk_46 (dk_at dksX0_trades_0 5 rfl rfl)
theorem dX0_trades_6 : decode cX0_trades 6 = .ok (.istore_n 3, 1) := dk_62 (dk_at dksX0_trades_0 6 rfl rfl)
theorem dX0_trades_7 : decode cX0_trades 7 = .ok (.aload_n 0, 1) := dk_42 (dk_at dksX0_trades_0 7 rfl rfl)
theorem dX0_trades_8 : decode cX0_trades 8 = .ok (.getfield 122, 3) := dk_180 0 122 (dk_at dksX0_trades_0 8 rfl rfl)
theorem dX0_trades_11 : decode cX0_trades 11 = .ok (.iload_n 1, 1) := dk_27 (dk_at dksX0_trades_0 11 rfl rfl)
theorem dX0_trades_12 : decode cX0_trades 12 = .ok (.aload_n 0, 1) := dk_42 (dk_at dksX0_trades_0 12 rfl rfl)
theorem dX0_trades_13 : decode cX0_trades 13 = .ok (.getfield 122, 3) := dk_180 0 122 (dk_at dksX0_trades_0 13 rfl rfl)
theorem dX0_trades_16 : decode cX0_trades 16 = .ok (.iload_n 2, 1) := dk_28 (dk_at dksX0_trades_0 16 rfl rfl)
theorem dX0_trades_17 : decode cX0_trades 17 = .ok (.iaload, 1) := dk_46 (dk_at dksX0_trades_0 17 rfl rfl)
theorem dX0_trades_18 : decode cX0_trades 18 = .ok (.iastore, 1) := dk_79 (dk_at dksX0_trades_0 18 rfl rfl)
theorem dX0_trades_19 : decode cX0_trades 19 = .ok (.aload_n 0, 1) := dk_42 (dk_at dksX0_trades_0 19 rfl rfl)
theorem dX0_trades_20 : decode cX0_trades 20 = .ok (.getfield 122, 3) := dk_180 0 122 (dk_at dksX0_trades_0 20 rfl rfl)
theorem dX0_trades_23 : decode cX0_trades 23 = .ok (.iload_n 2, 1) := dk_28 (dk_at dksX0_trades_0 23 rfl rfl)
theorem dX0_trades_24 : decode cX0_trades 24 = .ok (.iload_n 3, 1) := dk_29 (dk_at dksX0_trades_1 0 rfl rfl)
theorem dX0_trades_25 : decode cX0_trades 25 = .ok (.iastore, 1) := dk_79 (dk_at dksX0_trades_1 1 rfl rfl)
theorem dX0_trades_26 : decode cX0_trades 26 = .ok (.return_, 1) := dk_177 (dk_at dksX0_trades_1 2 rfl rfl)
abbrev cX0_loan : ByteArray := prog_1_method_43_code
def yX0_loan : MethodName := ⟨RX0, "loan", "(II)I"⟩
def dkwX0_loan_5 : List UInt8 := [28, 182, 1, 22, 172]
abbrev dktX0_loan_5 : List UInt8 := dkwX0_loan_5 ++ []
def dkwX0_loan_4 : List UInt8 := [21, 4, 96, 42, 27, 182, 0, 241, 182, 1, 0, 132, 4, 1, 167, 255, 186, 132, 3, 1, 167, 255, 166, 42]
abbrev dktX0_loan_4 : List UInt8 := dkwX0_loan_4 ++ dktX0_loan_5
def dkwX0_loan_3 : List UInt8 := [42, 180, 0, 109, 182, 0, 165, 42, 180, 0, 81, 29, 21, 4, 4, 184, 0, 215, 42, 16, 10, 29, 104]
abbrev dktX0_loan_3 : List UInt8 := dkwX0_loan_3 ++ dktX0_loan_4
def dkwX0_loan_2 : List UInt8 := [162, 0, 64, 29, 21, 4, 159, 0, 52, 42, 29, 21, 4, 4, 182, 0, 211, 154, 0, 41, 42, 180, 0, 81]
abbrev dktX0_loan_2 : List UInt8 := dkwX0_loan_2 ++ dktX0_loan_3
def dkwX0_loan_1 : List UInt8 := [42, 180, 0, 109, 180, 0, 182, 162, 0, 85, 3, 54, 4, 21, 4, 42, 180, 0, 109, 180, 0, 182]
abbrev dktX0_loan_1 : List UInt8 := dkwX0_loan_1 ++ dktX0_loan_2
def dkwX0_loan_0 : List UInt8 := [27, 184, 0, 225, 153, 0, 10, 28, 184, 0, 196, 154, 0, 5, 2, 172, 42, 27, 182, 1, 19, 3, 62, 29]
abbrev dktX0_loan_0 : List UInt8 := dkwX0_loan_0 ++ dktX0_loan_1
theorem dksX0_loan_0 : cX0_loan.data.toList.drop 0 = dktX0_loan_0 := by decide +kernel
theorem dksX0_loan_1 : cX0_loan.data.toList.drop 24 = dktX0_loan_1 := dk_seg dksX0_loan_0 24 rfl rfl
theorem dksX0_loan_2 : cX0_loan.data.toList.drop 46 = dktX0_loan_2 := dk_seg dksX0_loan_1 22 rfl rfl
theorem dksX0_loan_3 : cX0_loan.data.toList.drop 70 = dktX0_loan_3 := dk_seg dksX0_loan_2 24 rfl rfl
theorem dksX0_loan_4 : cX0_loan.data.toList.drop 93 = dktX0_loan_4 := dk_seg dksX0_loan_3 23 rfl rfl
theorem dksX0_loan_5 : cX0_loan.data.toList.drop 117 = dktX0_loan_5 := dk_seg dksX0_loan_4 24 rfl rfl
theorem dX0_loan_0 : decode cX0_loan 0 = .ok (.iload_n 1, 1) := dk_27 (dk_at dksX0_loan_0 0 rfl rfl)
theorem dX0_loan_1 : decode cX0_loan 1 = .ok (.invokestatic 225, 3) := dk_184 0 225 (dk_at dksX0_loan_0 1 rfl rfl)
theorem dX0_loan_4 : decode cX0_loan 4 = .ok (.ifCond .eq 10, 3) := dk_153 0 10 (dk_at dksX0_loan_0 4 rfl rfl)
theorem dX0_loan_7 : decode cX0_loan 7 = .ok (.iload_n 2, 1) := dk_28 (dk_at dksX0_loan_0 7 rfl rfl)
theorem dX0_loan_8 : decode cX0_loan 8 = .ok (.invokestatic 196, 3) := dk_184 0 196 (dk_at dksX0_loan_0 8 rfl rfl)
theorem dX0_loan_11 : decode cX0_loan 11 = .ok (.ifCond .ne 5, 3) := dk_154 0 5 (dk_at dksX0_loan_0 11 rfl rfl)
theorem dX0_loan_14 : decode cX0_loan 14 = .ok (.iconst (-1), 1) := dk_2 (dk_at dksX0_loan_0 14 rfl rfl)
theorem dX0_loan_15 : decode cX0_loan 15 = .ok (.ireturn, 1) := dk_172 (dk_at dksX0_loan_0 15 rfl rfl)
theorem dX0_loan_16 : decode cX0_loan 16 = .ok (.aload_n 0, 1) := dk_42 (dk_at dksX0_loan_0 16 rfl rfl)
theorem dX0_loan_17 : decode cX0_loan 17 = .ok (.iload_n 1, 1) := dk_27 (dk_at dksX0_loan_0 17 rfl rfl)
theorem dX0_loan_18 : decode cX0_loan 18 = .ok (.invokevirtual 275, 3) := dk_182 1 19 (dk_at dksX0_loan_0 18 rfl rfl)
theorem dX0_loan_21 : decode cX0_loan 21 = .ok (.iconst 0, 1) := dk_3 (dk_at dksX0_loan_0 21 rfl rfl)
theorem dX0_loan_22 : decode cX0_loan 22 = .ok (.istore_n 3, 1) := dk_62 (dk_at dksX0_loan_0 22 rfl rfl)
theorem dX0_loan_23 : decode cX0_loan 23 = .ok (.iload_n 3, 1) := dk_29 (dk_at dksX0_loan_0 23 rfl rfl)
theorem dX0_loan_24 : decode cX0_loan 24 = .ok (.aload_n 0, 1) := dk_42 (dk_at dksX0_loan_1 0 rfl rfl)
theorem dX0_loan_25 : decode cX0_loan 25 = .ok (.getfield 109, 3) := dk_180 0 109 (dk_at dksX0_loan_1 1 rfl rfl)
theorem dX0_loan_28 : decode cX0_loan 28 = .ok (.getfield 182, 3) := dk_180 0 182 (dk_at dksX0_loan_1 4 rfl rfl)
theorem dX0_loan_31 : decode cX0_loan 31 = .ok (.if_icmp .ge 85, 3) := dk_162 0 85 (dk_at dksX0_loan_1 7 rfl rfl)
theorem dX0_loan_34 : decode cX0_loan 34 = .ok (.iconst 0, 1) := dk_3 (dk_at dksX0_loan_1 10 rfl rfl)
theorem dX0_loan_35 : decode cX0_loan 35 = .ok (.istore 4, 2) := dk_54 4 (dk_at dksX0_loan_1 11 rfl rfl)
theorem dX0_loan_37 : decode cX0_loan 37 = .ok (.iload 4, 2) := dk_21 4 (dk_at dksX0_loan_1 13 rfl rfl)
theorem dX0_loan_39 : decode cX0_loan 39 = .ok (.aload_n 0, 1) := dk_42 (dk_at dksX0_loan_1 15 rfl rfl)
theorem dX0_loan_40 : decode cX0_loan 40 = .ok (.getfield 109, 3) := dk_180 0 109 (dk_at dksX0_loan_1 16 rfl rfl)
theorem dX0_loan_43 : decode cX0_loan 43 = .ok (.getfield 182, 3) := dk_180 0 182 (dk_at dksX0_loan_1 19 rfl rfl)
theorem dX0_loan_46 : decode cX0_loan 46 = .ok (.if_icmp .ge 64, 3) := dk_162 0 64 (dk_at dksX0_loan_2 0 rfl rfl)
theorem dX0_loan_49 : decode cX0_loan 49 = .ok (.iload_n 3, 1) := dk_29 (dk_at dksX0_loan_2 3 rfl rfl)
theorem dX0_loan_50 : decode cX0_loan 50 = .ok (.iload 4, 2) := dk_21 4 (dk_at dksX0_loan_2 4 rfl rfl)
theorem dX0_loan_52 : decode cX0_loan 52 = .ok (.if_icmp .eq 52, 3) := dk_159 0 52 (dk_at dksX0_loan_2 6 rfl rfl)
theorem dX0_loan_55 : decode cX0_loan 55 = .ok (.aload_n 0, 1) := dk_42 (dk_at dksX0_loan_2 9 rfl rfl)
theorem dX0_loan_56 : decode cX0_loan 56 = .ok (.iload_n 3, 1) := dk_29 (dk_at dksX0_loan_2 10 rfl rfl)
theorem dX0_loan_57 : decode cX0_loan 57 = .ok (.iload 4, 2) := dk_21 4 (dk_at dksX0_loan_2 11 rfl rfl)
theorem dX0_loan_59 : decode cX0_loan 59 = .ok (.iconst 1, 1) := dk_4 (dk_at dksX0_loan_2 13 rfl rfl)
theorem dX0_loan_60 : decode cX0_loan 60 = .ok (.invokevirtual 211, 3) := dk_182 0 211 (dk_at dksX0_loan_2 14 rfl rfl)
theorem dX0_loan_63 : decode cX0_loan 63 = .ok (.ifCond .ne 41, 3) := dk_154 0 41 (dk_at dksX0_loan_2 17 rfl rfl)
theorem dX0_loan_66 : decode cX0_loan 66 = .ok (.aload_n 0, 1) := dk_42 (dk_at dksX0_loan_2 20 rfl rfl)
theorem dX0_loan_67 : decode cX0_loan 67 = .ok (.getfield 81, 3) := dk_180 0 81 (dk_at dksX0_loan_2 21 rfl rfl)
theorem dX0_loan_70 : decode cX0_loan 70 = .ok (.aload_n 0, 1) := dk_42 (dk_at dksX0_loan_3 0 rfl rfl)
theorem dX0_loan_71 : decode cX0_loan 71 = .ok (.getfield 109, 3) := dk_180 0 109 (dk_at dksX0_loan_3 1 rfl rfl)
theorem dX0_loan_74 : decode cX0_loan 74 = .ok (.invokevirtual 165, 3) := dk_182 0 165 (dk_at dksX0_loan_3 4 rfl rfl)
theorem dX0_loan_77 : decode cX0_loan 77 = .ok (.aload_n 0, 1) := dk_42 (dk_at dksX0_loan_3 7 rfl rfl)
theorem dX0_loan_78 : decode cX0_loan 78 = .ok (.getfield 81, 3) := dk_180 0 81 (dk_at dksX0_loan_3 8 rfl rfl)
theorem dX0_loan_81 : decode cX0_loan 81 = .ok (.iload_n 3, 1) := dk_29 (dk_at dksX0_loan_3 11 rfl rfl)
theorem dX0_loan_82 : decode cX0_loan 82 = .ok (.iload 4, 2) := dk_21 4 (dk_at dksX0_loan_3 12 rfl rfl)
theorem dX0_loan_84 : decode cX0_loan 84 = .ok (.iconst 1, 1) := dk_4 (dk_at dksX0_loan_3 14 rfl rfl)
theorem dX0_loan_85 : decode cX0_loan 85 = .ok (.invokestatic 215, 3) := dk_184 0 215 (dk_at dksX0_loan_3 15 rfl rfl)
theorem dX0_loan_88 : decode cX0_loan 88 = .ok (.aload_n 0, 1) := dk_42 (dk_at dksX0_loan_3 18 rfl rfl)
theorem dX0_loan_89 : decode cX0_loan 89 = .ok (.bipush 10, 2) := dk_16 10 (dk_at dksX0_loan_3 19 rfl rfl)
theorem dX0_loan_91 : decode cX0_loan 91 = .ok (.iload_n 3, 1) := dk_29 (dk_at dksX0_loan_3 21 rfl rfl)
theorem dX0_loan_92 : decode cX0_loan 92 = .ok (.imul, 1) := dk_104 (dk_at dksX0_loan_3 22 rfl rfl)
theorem dX0_loan_93 : decode cX0_loan 93 = .ok (.iload 4, 2) := dk_21 4 (dk_at dksX0_loan_4 0 rfl rfl)
theorem dX0_loan_95 : decode cX0_loan 95 = .ok (.iadd, 1) := dk_96 (dk_at dksX0_loan_4 2 rfl rfl)
theorem dX0_loan_96 : decode cX0_loan 96 = .ok (.aload_n 0, 1) := dk_42 (dk_at dksX0_loan_4 3 rfl rfl)
theorem dX0_loan_97 : decode cX0_loan 97 = .ok (.iload_n 1, 1) := dk_27 (dk_at dksX0_loan_4 4 rfl rfl)
theorem dX0_loan_98 : decode cX0_loan 98 = .ok (.invokevirtual 241, 3) := dk_182 0 241 (dk_at dksX0_loan_4 5 rfl rfl)
theorem dX0_loan_101 : decode cX0_loan 101 = .ok (.invokevirtual 256, 3) := dk_182 1 0 (dk_at dksX0_loan_4 8 rfl rfl)
theorem dX0_loan_104 : decode cX0_loan 104 = .ok (.iinc 4 1, 3) := dk_132 4 1 (dk_at dksX0_loan_4 11 rfl rfl)
theorem dX0_loan_107 : decode cX0_loan 107 = .ok (.goto (-70), 3) := dk_167 255 186 (dk_at dksX0_loan_4 14 rfl rfl)
theorem dX0_loan_110 : decode cX0_loan 110 = .ok (.iinc 3 1, 3) := dk_132 3 1 (dk_at dksX0_loan_4 17 rfl rfl)
theorem dX0_loan_113 : decode cX0_loan 113 = .ok (.goto (-90), 3) := dk_167 255 166 (dk_at dksX0_loan_4 20 rfl rfl)
theorem dX0_loan_116 : decode cX0_loan 116 = .ok (.aload_n 0, 1) := dk_42 (dk_at dksX0_loan_4 23 rfl rfl)
theorem dX0_loan_117 : decode cX0_loan 117 = .ok (.iload_n 2, 1) := dk_28 (dk_at dksX0_loan_5 0 rfl rfl)
theorem dX0_loan_118 : decode cX0_loan 118 = .ok (.invokevirtual 278, 3) := dk_182 1 22 (dk_at dksX0_loan_5 1 rfl rfl)
theorem dX0_loan_121 : decode cX0_loan 121 = .ok (.ireturn, 1) := dk_172 (dk_at dksX0_loan_5 4 rfl rfl)
abbrev cX0_startsByNow : ByteArray := prog_1_method_38_code
def yX0_startsByNow : MethodName := ⟨RX0, "startsByNow", "(I)V"⟩
def dkwX0_startsByNow_0 : List UInt8 := [42, 180, 0, 81, 42, 180, 0, 109, 182, 0, 165, 42, 42, 27, 182, 0, 241, 182, 0, 244, 177]
abbrev dktX0_startsByNow_0 : List UInt8 := dkwX0_startsByNow_0 ++ []
theorem dksX0_startsByNow_0 : cX0_startsByNow.data.toList.drop 0 = dktX0_startsByNow_0 := by decide +kernel
theorem dX0_startsByNow_0 : decode cX0_startsByNow 0 = .ok (.aload_n 0, 1) := dk_42 (dk_at dksX0_startsByNow_0 0 rfl rfl)
theorem dX0_startsByNow_1 : decode cX0_startsByNow 1 = .ok (.getfield 81, 3) := dk_180 0 81 (dk_at dksX0_startsByNow_0 1 rfl rfl)
theorem dX0_startsByNow_4 : decode cX0_startsByNow 4 = .ok (.aload_n 0, 1) := dk_42 (dk_at dksX0_startsByNow_0 4 rfl rfl)
theorem dX0_startsByNow_5 : decode cX0_startsByNow 5 = .ok (.getfield 109, 3) := dk_180 0 109 (dk_at dksX0_startsByNow_0 5 rfl rfl)
theorem dX0_startsByNow_8 : decode cX0_startsByNow 8 = .ok (.invokevirtual 165, 3) := dk_182 0 165 (dk_at dksX0_startsByNow_0 8 rfl rfl)
theorem dX0_startsByNow_11 : decode cX0_startsByNow 11 = .ok (.aload_n 0, 1) := dk_42 (dk_at dksX0_startsByNow_0 11 rfl rfl)
theorem dX0_startsByNow_12 : decode cX0_startsByNow 12 = .ok (.aload_n 0, 1) := dk_42 (dk_at dksX0_startsByNow_0 12 rfl rfl)
theorem dX0_startsByNow_13 : decode cX0_startsByNow 13 = .ok (.iload_n 1, 1) := dk_27 (dk_at dksX0_startsByNow_0 13 rfl rfl)
theorem dX0_startsByNow_14 : decode cX0_startsByNow 14 = .ok (.invokevirtual 241, 3) := dk_182 0 241 (dk_at dksX0_startsByNow_0 14 rfl rfl)
theorem dX0_startsByNow_17 : decode cX0_startsByNow 17 = .ok (.invokevirtual 244, 3) := dk_182 0 244 (dk_at dksX0_startsByNow_0 17 rfl rfl)
theorem dX0_startsByNow_20 : decode cX0_startsByNow 20 = .ok (.return_, 1) := dk_177 (dk_at dksX0_startsByNow_0 20 rfl rfl)
abbrev cX0_judged : ByteArray := prog_1_method_37_code
def yX0_judged : MethodName := ⟨RX0, "judged", "(I)I"⟩
def dkwX0_judged_1 : List UInt8 := [167, 0, 7, 42, 180, 0, 233, 172]
abbrev dktX0_judged_1 : List UInt8 := dkwX0_judged_1 ++ []
def dkwX0_judged_0 : List UInt8 := [42, 180, 0, 230, 16, 252, 160, 0, 8, 16, 252, 167, 0, 18, 27, 154, 0, 10, 42, 180, 0, 230]
abbrev dktX0_judged_0 : List UInt8 := dkwX0_judged_0 ++ dktX0_judged_1
theorem dksX0_judged_0 : cX0_judged.data.toList.drop 0 = dktX0_judged_0 := by decide +kernel
theorem dksX0_judged_1 : cX0_judged.data.toList.drop 22 = dktX0_judged_1 := dk_seg dksX0_judged_0 22 rfl rfl
theorem dX0_judged_0 : decode cX0_judged 0 = .ok (.aload_n 0, 1) := dk_42 (dk_at dksX0_judged_0 0 rfl rfl)
theorem dX0_judged_1 : decode cX0_judged 1 = .ok (.getfield 230, 3) := dk_180 0 230 (dk_at dksX0_judged_0 1 rfl rfl)
theorem dX0_judged_4 : decode cX0_judged 4 = .ok (.bipush (-4), 2) := dk_16 252 (dk_at dksX0_judged_0 4 rfl rfl)
theorem dX0_judged_6 : decode cX0_judged 6 = .ok (.if_icmp .ne 8, 3) := dk_160 0 8 (dk_at dksX0_judged_0 6 rfl rfl)
theorem dX0_judged_9 : decode cX0_judged 9 = .ok (.bipush (-4), 2) := dk_16 252 (dk_at dksX0_judged_0 9 rfl rfl)
theorem dX0_judged_11 : decode cX0_judged 11 = .ok (.goto 18, 3) := dk_167 0 18 (dk_at dksX0_judged_0 11 rfl rfl)
theorem dX0_judged_14 : decode cX0_judged 14 = .ok (.iload_n 1, 1) := dk_27 (dk_at dksX0_judged_0 14 rfl rfl)
theorem dX0_judged_15 : decode cX0_judged 15 = .ok (.ifCond .ne 10, 3) := dk_154 0 10 (dk_at dksX0_judged_0 15 rfl rfl)
theorem dX0_judged_18 : decode cX0_judged 18 = .ok (.aload_n 0, 1) := dk_42 (dk_at dksX0_judged_0 18 rfl rfl)
theorem dX0_judged_19 : decode cX0_judged 19 = .ok (.getfield 230, 3) := dk_180 0 230 (dk_at dksX0_judged_0 19 rfl rfl)
theorem dX0_judged_22 : decode cX0_judged 22 = .ok (.goto 7, 3) := dk_167 0 7 (dk_at dksX0_judged_1 0 rfl rfl)
theorem dX0_judged_25 : decode cX0_judged 25 = .ok (.aload_n 0, 1) := dk_42 (dk_at dksX0_judged_1 3 rfl rfl)
theorem dX0_judged_26 : decode cX0_judged 26 = .ok (.getfield 233, 3) := dk_180 0 233 (dk_at dksX0_judged_1 4 rfl rfl)
theorem dX0_judged_29 : decode cX0_judged 29 = .ok (.ireturn, 1) := dk_172 (dk_at dksX0_judged_1 7 rfl rfl)
abbrev cX0_swap : ByteArray := prog_1_method_44_code
def yX0_swap : MethodName := ⟨RX0, "swap", "(II)I"⟩
def dkwX0_swap_5 : List UInt8 := [28, 182, 1, 22, 172]
abbrev dktX0_swap_5 : List UInt8 := dkwX0_swap_5 ++ []
def dkwX0_swap_4 : List UInt8 := [21, 4, 96, 42, 27, 182, 0, 241, 182, 1, 0, 132, 4, 1, 167, 255, 186, 132, 3, 1, 167, 255, 164, 42]
abbrev dktX0_swap_4 : List UInt8 := dkwX0_swap_4 ++ dktX0_swap_5
def dkwX0_swap_3 : List UInt8 := [21, 4, 182, 0, 252, 42, 180, 0, 81, 21, 4, 42, 180, 0, 109, 29, 182, 0, 252, 42, 16, 10, 29, 104]
abbrev dktX0_swap_3 : List UInt8 := dkwX0_swap_3 ++ dktX0_swap_4
def dkwX0_swap_2 : List UInt8 := [162, 0, 64, 42, 180, 0, 81, 42, 180, 0, 109, 182, 0, 165, 42, 180, 0, 81, 29, 42, 180, 0, 109]
abbrev dktX0_swap_2 : List UInt8 := dkwX0_swap_2 ++ dktX0_swap_3
def dkwX0_swap_1 : List UInt8 := [42, 180, 0, 109, 180, 0, 46, 162, 0, 87, 29, 4, 96, 54, 4, 21, 4, 42, 180, 0, 109, 180, 0, 46]
abbrev dktX0_swap_1 : List UInt8 := dkwX0_swap_1 ++ dktX0_swap_2
def dkwX0_swap_0 : List UInt8 := [27, 184, 0, 225, 153, 0, 10, 28, 184, 0, 196, 154, 0, 5, 2, 172, 42, 27, 182, 1, 19, 3, 62, 29]
abbrev dktX0_swap_0 : List UInt8 := dkwX0_swap_0 ++ dktX0_swap_1
theorem dksX0_swap_0 : cX0_swap.data.toList.drop 0 = dktX0_swap_0 := by decide +kernel
theorem dksX0_swap_1 : cX0_swap.data.toList.drop 24 = dktX0_swap_1 := dk_seg dksX0_swap_0 24 rfl rfl
theorem dksX0_swap_2 : cX0_swap.data.toList.drop 48 = dktX0_swap_2 := dk_seg dksX0_swap_1 24 rfl rfl
theorem dksX0_swap_3 : cX0_swap.data.toList.drop 71 = dktX0_swap_3 := dk_seg dksX0_swap_2 23 rfl rfl
theorem dksX0_swap_4 : cX0_swap.data.toList.drop 95 = dktX0_swap_4 := dk_seg dksX0_swap_3 24 rfl rfl
theorem dksX0_swap_5 : cX0_swap.data.toList.drop 119 = dktX0_swap_5 := dk_seg dksX0_swap_4 24 rfl rfl
theorem dX0_swap_0 : decode cX0_swap 0 = .ok (.iload_n 1, 1) := dk_27 (dk_at dksX0_swap_0 0 rfl rfl)
theorem dX0_swap_1 : decode cX0_swap 1 = .ok (.invokestatic 225, 3) := dk_184 0 225 (dk_at dksX0_swap_0 1 rfl rfl)
theorem dX0_swap_4 : decode cX0_swap 4 = .ok (.ifCond .eq 10, 3) := dk_153 0 10 (dk_at dksX0_swap_0 4 rfl rfl)
theorem dX0_swap_7 : decode cX0_swap 7 = .ok (.iload_n 2, 1) := dk_28 (dk_at dksX0_swap_0 7 rfl rfl)
theorem dX0_swap_8 : decode cX0_swap 8 = .ok (.invokestatic 196, 3) := dk_184 0 196 (dk_at dksX0_swap_0 8 rfl rfl)
theorem dX0_swap_11 : decode cX0_swap 11 = .ok (.ifCond .ne 5, 3) := dk_154 0 5 (dk_at dksX0_swap_0 11 rfl rfl)
theorem dX0_swap_14 : decode cX0_swap 14 = .ok (.iconst (-1), 1) := dk_2 (dk_at dksX0_swap_0 14 rfl rfl)
theorem dX0_swap_15 : decode cX0_swap 15 = .ok (.ireturn, 1) := dk_172 (dk_at dksX0_swap_0 15 rfl rfl)
theorem dX0_swap_16 : decode cX0_swap 16 = .ok (.aload_n 0, 1) := dk_42 (dk_at dksX0_swap_0 16 rfl rfl)
theorem dX0_swap_17 : decode cX0_swap 17 = .ok (.iload_n 1, 1) := dk_27 (dk_at dksX0_swap_0 17 rfl rfl)
theorem dX0_swap_18 : decode cX0_swap 18 = .ok (.invokevirtual 275, 3) := dk_182 1 19 (dk_at dksX0_swap_0 18 rfl rfl)
theorem dX0_swap_21 : decode cX0_swap 21 = .ok (.iconst 0, 1) := dk_3 (dk_at dksX0_swap_0 21 rfl rfl)
theorem dX0_swap_22 : decode cX0_swap 22 = .ok (.istore_n 3, 1) := dk_62 (dk_at dksX0_swap_0 22 rfl rfl)
theorem dX0_swap_23 : decode cX0_swap 23 = .ok (.iload_n 3, 1) := dk_29 (dk_at dksX0_swap_0 23 rfl rfl)
theorem dX0_swap_24 : decode cX0_swap 24 = .ok (.aload_n 0, 1) := dk_42 (dk_at dksX0_swap_1 0 rfl rfl)
theorem dX0_swap_25 : decode cX0_swap 25 = .ok (.getfield 109, 3) := dk_180 0 109 (dk_at dksX0_swap_1 1 rfl rfl)
theorem dX0_swap_28 : decode cX0_swap 28 = .ok (.getfield 46, 3) := dk_180 0 46 (dk_at dksX0_swap_1 4 rfl rfl)
theorem dX0_swap_31 : decode cX0_swap 31 = .ok (.if_icmp .ge 87, 3) := dk_162 0 87 (dk_at dksX0_swap_1 7 rfl rfl)
theorem dX0_swap_34 : decode cX0_swap 34 = .ok (.iload_n 3, 1) := dk_29 (dk_at dksX0_swap_1 10 rfl rfl)
theorem dX0_swap_35 : decode cX0_swap 35 = .ok (.iconst 1, 1) := dk_4 (dk_at dksX0_swap_1 11 rfl rfl)
theorem dX0_swap_36 : decode cX0_swap 36 = .ok (.iadd, 1) := dk_96 (dk_at dksX0_swap_1 12 rfl rfl)
theorem dX0_swap_37 : decode cX0_swap 37 = .ok (.istore 4, 2) := dk_54 4 (dk_at dksX0_swap_1 13 rfl rfl)
theorem dX0_swap_39 : decode cX0_swap 39 = .ok (.iload 4, 2) := dk_21 4 (dk_at dksX0_swap_1 15 rfl rfl)
theorem dX0_swap_41 : decode cX0_swap 41 = .ok (.aload_n 0, 1) := dk_42 (dk_at dksX0_swap_1 17 rfl rfl)
theorem dX0_swap_42 : decode cX0_swap 42 = .ok (.getfield 109, 3) := dk_180 0 109 (dk_at dksX0_swap_1 18 rfl rfl)
theorem dX0_swap_45 : decode cX0_swap 45 = .ok (.getfield 46, 3) := dk_180 0 46 (dk_at dksX0_swap_1 21 rfl rfl)
theorem dX0_swap_48 : decode cX0_swap 48 = .ok (.if_icmp .ge 64, 3) := dk_162 0 64 (dk_at dksX0_swap_2 0 rfl rfl)
theorem dX0_swap_51 : decode cX0_swap 51 = .ok (.aload_n 0, 1) := dk_42 (dk_at dksX0_swap_2 3 rfl rfl)
theorem dX0_swap_52 : decode cX0_swap 52 = .ok (.getfield 81, 3) := dk_180 0 81 (dk_at dksX0_swap_2 4 rfl rfl)
theorem dX0_swap_55 : decode cX0_swap 55 = .ok (.aload_n 0, 1) := dk_42 (dk_at dksX0_swap_2 7 rfl rfl)
theorem dX0_swap_56 : decode cX0_swap 56 = .ok (.getfield 109, 3) := dk_180 0 109 (dk_at dksX0_swap_2 8 rfl rfl)
theorem dX0_swap_59 : decode cX0_swap 59 = .ok (.invokevirtual 165, 3) := dk_182 0 165 (dk_at dksX0_swap_2 11 rfl rfl)
theorem dX0_swap_62 : decode cX0_swap 62 = .ok (.aload_n 0, 1) := dk_42 (dk_at dksX0_swap_2 14 rfl rfl)
theorem dX0_swap_63 : decode cX0_swap 63 = .ok (.getfield 81, 3) := dk_180 0 81 (dk_at dksX0_swap_2 15 rfl rfl)
theorem dX0_swap_66 : decode cX0_swap 66 = .ok (.iload_n 3, 1) := dk_29 (dk_at dksX0_swap_2 18 rfl rfl)
theorem dX0_swap_67 : decode cX0_swap 67 = .ok (.aload_n 0, 1) := dk_42 (dk_at dksX0_swap_2 19 rfl rfl)
theorem dX0_swap_68 : decode cX0_swap 68 = .ok (.getfield 109, 3) := dk_180 0 109 (dk_at dksX0_swap_2 20 rfl rfl)
theorem dX0_swap_71 : decode cX0_swap 71 = .ok (.iload 4, 2) := dk_21 4 (dk_at dksX0_swap_3 0 rfl rfl)
theorem dX0_swap_73 : decode cX0_swap 73 = .ok (.invokevirtual 252, 3) := dk_182 0 252 (dk_at dksX0_swap_3 2 rfl rfl)
theorem dX0_swap_76 : decode cX0_swap 76 = .ok (.aload_n 0, 1) := dk_42 (dk_at dksX0_swap_3 5 rfl rfl)
theorem dX0_swap_77 : decode cX0_swap 77 = .ok (.getfield 81, 3) := dk_180 0 81 (dk_at dksX0_swap_3 6 rfl rfl)
theorem dX0_swap_80 : decode cX0_swap 80 = .ok (.iload 4, 2) := dk_21 4 (dk_at dksX0_swap_3 9 rfl rfl)
theorem dX0_swap_82 : decode cX0_swap 82 = .ok (.aload_n 0, 1) := dk_42 (dk_at dksX0_swap_3 11 rfl rfl)
theorem dX0_swap_83 : decode cX0_swap 83 = .ok (.getfield 109, 3) := dk_180 0 109 (dk_at dksX0_swap_3 12 rfl rfl)
theorem dX0_swap_86 : decode cX0_swap 86 = .ok (.iload_n 3, 1) := dk_29 (dk_at dksX0_swap_3 15 rfl rfl)
theorem dX0_swap_87 : decode cX0_swap 87 = .ok (.invokevirtual 252, 3) := dk_182 0 252 (dk_at dksX0_swap_3 16 rfl rfl)
theorem dX0_swap_90 : decode cX0_swap 90 = .ok (.aload_n 0, 1) := dk_42 (dk_at dksX0_swap_3 19 rfl rfl)
theorem dX0_swap_91 : decode cX0_swap 91 = .ok (.bipush 10, 2) := dk_16 10 (dk_at dksX0_swap_3 20 rfl rfl)
theorem dX0_swap_93 : decode cX0_swap 93 = .ok (.iload_n 3, 1) := dk_29 (dk_at dksX0_swap_3 22 rfl rfl)
theorem dX0_swap_94 : decode cX0_swap 94 = .ok (.imul, 1) := dk_104 (dk_at dksX0_swap_3 23 rfl rfl)
theorem dX0_swap_95 : decode cX0_swap 95 = .ok (.iload 4, 2) := dk_21 4 (dk_at dksX0_swap_4 0 rfl rfl)
theorem dX0_swap_97 : decode cX0_swap 97 = .ok (.iadd, 1) := dk_96 (dk_at dksX0_swap_4 2 rfl rfl)
theorem dX0_swap_98 : decode cX0_swap 98 = .ok (.aload_n 0, 1) := dk_42 (dk_at dksX0_swap_4 3 rfl rfl)
theorem dX0_swap_99 : decode cX0_swap 99 = .ok (.iload_n 1, 1) := dk_27 (dk_at dksX0_swap_4 4 rfl rfl)
theorem dX0_swap_100 : decode cX0_swap 100 = .ok (.invokevirtual 241, 3) := dk_182 0 241 (dk_at dksX0_swap_4 5 rfl rfl)
theorem dX0_swap_103 : decode cX0_swap 103 = .ok (.invokevirtual 256, 3) := dk_182 1 0 (dk_at dksX0_swap_4 8 rfl rfl)
theorem dX0_swap_106 : decode cX0_swap 106 = .ok (.iinc 4 1, 3) := dk_132 4 1 (dk_at dksX0_swap_4 11 rfl rfl)
theorem dX0_swap_109 : decode cX0_swap 109 = .ok (.goto (-70), 3) := dk_167 255 186 (dk_at dksX0_swap_4 14 rfl rfl)
theorem dX0_swap_112 : decode cX0_swap 112 = .ok (.iinc 3 1, 3) := dk_132 3 1 (dk_at dksX0_swap_4 17 rfl rfl)
theorem dX0_swap_115 : decode cX0_swap 115 = .ok (.goto (-92), 3) := dk_167 255 164 (dk_at dksX0_swap_4 20 rfl rfl)
theorem dX0_swap_118 : decode cX0_swap 118 = .ok (.aload_n 0, 1) := dk_42 (dk_at dksX0_swap_4 23 rfl rfl)
theorem dX0_swap_119 : decode cX0_swap 119 = .ok (.iload_n 2, 1) := dk_28 (dk_at dksX0_swap_5 0 rfl rfl)
theorem dX0_swap_120 : decode cX0_swap 120 = .ok (.invokevirtual 278, 3) := dk_182 1 22 (dk_at dksX0_swap_5 1 rfl rfl)
theorem dX0_swap_123 : decode cX0_swap 123 = .ok (.ireturn, 1) := dk_172 (dk_at dksX0_swap_5 4 rfl rfl)
abbrev cX0_skip : ByteArray := prog_1_method_45_code
def yX0_skip : MethodName := ⟨RX0, "skip", "(II)I"⟩
def dkwX0_skip_3 : List UInt8 := [28, 182, 1, 22, 172]
abbrev dktX0_skip_3 : List UInt8 := dkwX0_skip_3 ++ []
def dkwX0_skip_2 : List UInt8 := [180, 0, 81, 29, 181, 0, 59, 42, 29, 42, 27, 182, 0, 241, 182, 1, 0, 132, 3, 1, 167, 255, 213, 42]
abbrev dktX0_skip_2 : List UInt8 := dkwX0_skip_2 ++ dktX0_skip_3
def dkwX0_skip_1 : List UInt8 := [42, 180, 0, 109, 180, 0, 46, 162, 0, 38, 42, 180, 0, 81, 42, 180, 0, 109, 182, 0, 165, 42]
abbrev dktX0_skip_1 : List UInt8 := dkwX0_skip_1 ++ dktX0_skip_2
def dkwX0_skip_0 : List UInt8 := [27, 184, 0, 225, 153, 0, 10, 28, 184, 0, 196, 154, 0, 5, 2, 172, 42, 27, 182, 1, 19, 3, 62, 29]
abbrev dktX0_skip_0 : List UInt8 := dkwX0_skip_0 ++ dktX0_skip_1
theorem dksX0_skip_0 : cX0_skip.data.toList.drop 0 = dktX0_skip_0 := by decide +kernel
theorem dksX0_skip_1 : cX0_skip.data.toList.drop 24 = dktX0_skip_1 := dk_seg dksX0_skip_0 24 rfl rfl
theorem dksX0_skip_2 : cX0_skip.data.toList.drop 46 = dktX0_skip_2 := dk_seg dksX0_skip_1 22 rfl rfl
theorem dksX0_skip_3 : cX0_skip.data.toList.drop 70 = dktX0_skip_3 := dk_seg dksX0_skip_2 24 rfl rfl
theorem dX0_skip_0 : decode cX0_skip 0 = .ok (.iload_n 1, 1) := dk_27 (dk_at dksX0_skip_0 0 rfl rfl)
theorem dX0_skip_1 : decode cX0_skip 1 = .ok (.invokestatic 225, 3) := dk_184 0 225 (dk_at dksX0_skip_0 1 rfl rfl)
theorem dX0_skip_4 : decode cX0_skip 4 = .ok (.ifCond .eq 10, 3) := dk_153 0 10 (dk_at dksX0_skip_0 4 rfl rfl)
theorem dX0_skip_7 : decode cX0_skip 7 = .ok (.iload_n 2, 1) := dk_28 (dk_at dksX0_skip_0 7 rfl rfl)
theorem dX0_skip_8 : decode cX0_skip 8 = .ok (.invokestatic 196, 3) := dk_184 0 196 (dk_at dksX0_skip_0 8 rfl rfl)
theorem dX0_skip_11 : decode cX0_skip 11 = .ok (.ifCond .ne 5, 3) := dk_154 0 5 (dk_at dksX0_skip_0 11 rfl rfl)
theorem dX0_skip_14 : decode cX0_skip 14 = .ok (.iconst (-1), 1) := dk_2 (dk_at dksX0_skip_0 14 rfl rfl)
theorem dX0_skip_15 : decode cX0_skip 15 = .ok (.ireturn, 1) := dk_172 (dk_at dksX0_skip_0 15 rfl rfl)
theorem dX0_skip_16 : decode cX0_skip 16 = .ok (.aload_n 0, 1) := dk_42 (dk_at dksX0_skip_0 16 rfl rfl)
theorem dX0_skip_17 : decode cX0_skip 17 = .ok (.iload_n 1, 1) := dk_27 (dk_at dksX0_skip_0 17 rfl rfl)
theorem dX0_skip_18 : decode cX0_skip 18 = .ok (.invokevirtual 275, 3) := dk_182 1 19 (dk_at dksX0_skip_0 18 rfl rfl)
theorem dX0_skip_21 : decode cX0_skip 21 = .ok (.iconst 0, 1) := dk_3 (dk_at dksX0_skip_0 21 rfl rfl)
theorem dX0_skip_22 : decode cX0_skip 22 = .ok (.istore_n 3, 1) := dk_62 (dk_at dksX0_skip_0 22 rfl rfl)
theorem dX0_skip_23 : decode cX0_skip 23 = .ok (.iload_n 3, 1) := dk_29 (dk_at dksX0_skip_0 23 rfl rfl)
theorem dX0_skip_24 : decode cX0_skip 24 = .ok (.aload_n 0, 1) := dk_42 (dk_at dksX0_skip_1 0 rfl rfl)
theorem dX0_skip_25 : decode cX0_skip 25 = .ok (.getfield 109, 3) := dk_180 0 109 (dk_at dksX0_skip_1 1 rfl rfl)
theorem dX0_skip_28 : decode cX0_skip 28 = .ok (.getfield 46, 3) := dk_180 0 46 (dk_at dksX0_skip_1 4 rfl rfl)
theorem dX0_skip_31 : decode cX0_skip 31 = .ok (.if_icmp .ge 38, 3) := dk_162 0 38 (dk_at dksX0_skip_1 7 rfl rfl)
theorem dX0_skip_34 : decode cX0_skip 34 = .ok (.aload_n 0, 1) := dk_42 (dk_at dksX0_skip_1 10 rfl rfl)
theorem dX0_skip_35 : decode cX0_skip 35 = .ok (.getfield 81, 3) := dk_180 0 81 (dk_at dksX0_skip_1 11 rfl rfl)
theorem dX0_skip_38 : decode cX0_skip 38 = .ok (.aload_n 0, 1) := dk_42 (dk_at dksX0_skip_1 14 rfl rfl)
theorem dX0_skip_39 : decode cX0_skip 39 = .ok (.getfield 109, 3) := dk_180 0 109 (dk_at dksX0_skip_1 15 rfl rfl)
theorem dX0_skip_42 : decode cX0_skip 42 = .ok (.invokevirtual 165, 3) := dk_182 0 165 (dk_at dksX0_skip_1 18 rfl rfl)
theorem dX0_skip_45 : decode cX0_skip 45 = .ok (.aload_n 0, 1) := dk_42 (dk_at dksX0_skip_1 21 rfl rfl)
theorem dX0_skip_46 : decode cX0_skip 46 = .ok (.getfield 81, 3) := dk_180 0 81 (dk_at dksX0_skip_2 0 rfl rfl)
theorem dX0_skip_49 : decode cX0_skip 49 = .ok (.iload_n 3, 1) := dk_29 (dk_at dksX0_skip_2 3 rfl rfl)
theorem dX0_skip_50 : decode cX0_skip 50 = .ok (.putfield 59, 3) := dk_181 0 59 (dk_at dksX0_skip_2 4 rfl rfl)
theorem dX0_skip_53 : decode cX0_skip 53 = .ok (.aload_n 0, 1) := dk_42 (dk_at dksX0_skip_2 7 rfl rfl)
theorem dX0_skip_54 : decode cX0_skip 54 = .ok (.iload_n 3, 1) := dk_29 (dk_at dksX0_skip_2 8 rfl rfl)
theorem dX0_skip_55 : decode cX0_skip 55 = .ok (.aload_n 0, 1) := dk_42 (dk_at dksX0_skip_2 9 rfl rfl)
theorem dX0_skip_56 : decode cX0_skip 56 = .ok (.iload_n 1, 1) := dk_27 (dk_at dksX0_skip_2 10 rfl rfl)
theorem dX0_skip_57 : decode cX0_skip 57 = .ok (.invokevirtual 241, 3) := dk_182 0 241 (dk_at dksX0_skip_2 11 rfl rfl)
theorem dX0_skip_60 : decode cX0_skip 60 = .ok (.invokevirtual 256, 3) := dk_182 1 0 (dk_at dksX0_skip_2 14 rfl rfl)
theorem dX0_skip_63 : decode cX0_skip 63 = .ok (.iinc 3 1, 3) := dk_132 3 1 (dk_at dksX0_skip_2 17 rfl rfl)
theorem dX0_skip_66 : decode cX0_skip 66 = .ok (.goto (-43), 3) := dk_167 255 213 (dk_at dksX0_skip_2 20 rfl rfl)
theorem dX0_skip_69 : decode cX0_skip 69 = .ok (.aload_n 0, 1) := dk_42 (dk_at dksX0_skip_2 23 rfl rfl)
theorem dX0_skip_70 : decode cX0_skip 70 = .ok (.iload_n 2, 1) := dk_28 (dk_at dksX0_skip_3 0 rfl rfl)
theorem dX0_skip_71 : decode cX0_skip 71 = .ok (.invokevirtual 278, 3) := dk_182 1 22 (dk_at dksX0_skip_3 1 rfl rfl)
theorem dX0_skip_74 : decode cX0_skip 74 = .ok (.ireturn, 1) := dk_172 (dk_at dksX0_skip_3 4 rfl rfl)
abbrev cX0_most : ByteArray := prog_1_method_46_code
def yX0_most : MethodName := ⟨RX0, "most", "(II)I"⟩
def dkwX0_most_3 : List UInt8 := [167, 255, 206, 16, 252, 172]
abbrev dktX0_most_3 : List UInt8 := dkwX0_most_3 ++ []
def dkwX0_most_2 : List UInt8 := [180, 0, 81, 28, 182, 0, 85, 42, 180, 0, 28, 27, 184, 1, 25, 153, 0, 5, 29, 172, 132, 3, 255]
abbrev dktX0_most_2 : List UInt8 := dkwX0_most_2 ++ dktX0_most_3
def dkwX0_most_1 : List UInt8 := [42, 180, 0, 81, 42, 180, 0, 109, 182, 0, 165, 42, 180, 0, 81, 27, 4, 29, 182, 0, 205, 42, 42]
abbrev dktX0_most_1 : List UInt8 := dkwX0_most_1 ++ dktX0_most_2
def dkwX0_most_0 : List UInt8 := [42, 27, 182, 0, 185, 153, 0, 10, 28, 184, 0, 225, 154, 0, 5, 2, 172, 16, 20, 62, 29, 155, 0, 52]
abbrev dktX0_most_0 : List UInt8 := dkwX0_most_0 ++ dktX0_most_1
theorem dksX0_most_0 : cX0_most.data.toList.drop 0 = dktX0_most_0 := by decide +kernel
theorem dksX0_most_1 : cX0_most.data.toList.drop 24 = dktX0_most_1 := dk_seg dksX0_most_0 24 rfl rfl
theorem dksX0_most_2 : cX0_most.data.toList.drop 47 = dktX0_most_2 := dk_seg dksX0_most_1 23 rfl rfl
theorem dksX0_most_3 : cX0_most.data.toList.drop 70 = dktX0_most_3 := dk_seg dksX0_most_2 23 rfl rfl
theorem dX0_most_0 : decode cX0_most 0 = .ok (.aload_n 0, 1) := dk_42 (dk_at dksX0_most_0 0 rfl rfl)
theorem dX0_most_1 : decode cX0_most 1 = .ok (.iload_n 1, 1) := dk_27 (dk_at dksX0_most_0 1 rfl rfl)
theorem dX0_most_2 : decode cX0_most 2 = .ok (.invokevirtual 185, 3) := dk_182 0 185 (dk_at dksX0_most_0 2 rfl rfl)
theorem dX0_most_5 : decode cX0_most 5 = .ok (.ifCond .eq 10, 3) := dk_153 0 10 (dk_at dksX0_most_0 5 rfl rfl)
theorem dX0_most_8 : decode cX0_most 8 = .ok (.iload_n 2, 1) := dk_28 (dk_at dksX0_most_0 8 rfl rfl)
theorem dX0_most_9 : decode cX0_most 9 = .ok (.invokestatic 225, 3) := dk_184 0 225 (dk_at dksX0_most_0 9 rfl rfl)
theorem dX0_most_12 : decode cX0_most 12 = .ok (.ifCond .ne 5, 3) := dk_154 0 5 (dk_at dksX0_most_0 12 rfl rfl)
theorem dX0_most_15 : decode cX0_most 15 = .ok (.iconst (-1), 1) := dk_2 (dk_at dksX0_most_0 15 rfl rfl)
theorem dX0_most_16 : decode cX0_most 16 = .ok (.ireturn, 1) := dk_172 (dk_at dksX0_most_0 16 rfl rfl)
theorem dX0_most_17 : decode cX0_most 17 = .ok (.bipush 20, 2) := dk_16 20 (dk_at dksX0_most_0 17 rfl rfl)
theorem dX0_most_19 : decode cX0_most 19 = .ok (.istore_n 3, 1) := dk_62 (dk_at dksX0_most_0 19 rfl rfl)
theorem dX0_most_20 : decode cX0_most 20 = .ok (.iload_n 3, 1) := dk_29 (dk_at dksX0_most_0 20 rfl rfl)
theorem dX0_most_21 : decode cX0_most 21 = .ok (.ifCond .lt 52, 3) := dk_155 0 52 (dk_at dksX0_most_0 21 rfl rfl)
theorem dX0_most_24 : decode cX0_most 24 = .ok (.aload_n 0, 1) := dk_42 (dk_at dksX0_most_1 0 rfl rfl)
theorem dX0_most_25 : decode cX0_most 25 = .ok (.getfield 81, 3) := dk_180 0 81 (dk_at dksX0_most_1 1 rfl rfl)
theorem dX0_most_28 : decode cX0_most 28 = .ok (.aload_n 0, 1) := dk_42 (dk_at dksX0_most_1 4 rfl rfl)
theorem dX0_most_29 : decode cX0_most 29 = .ok (.getfield 109, 3) := dk_180 0 109 (dk_at dksX0_most_1 5 rfl rfl)
theorem dX0_most_32 : decode cX0_most 32 = .ok (.invokevirtual 165, 3) := dk_182 0 165 (dk_at dksX0_most_1 8 rfl rfl)
theorem dX0_most_35 : decode cX0_most 35 = .ok (.aload_n 0, 1) := dk_42 (dk_at dksX0_most_1 11 rfl rfl)
theorem dX0_most_36 : decode cX0_most 36 = .ok (.getfield 81, 3) := dk_180 0 81 (dk_at dksX0_most_1 12 rfl rfl)
theorem dX0_most_39 : decode cX0_most 39 = .ok (.iload_n 1, 1) := dk_27 (dk_at dksX0_most_1 15 rfl rfl)
theorem dX0_most_40 : decode cX0_most 40 = .ok (.iconst 1, 1) := dk_4 (dk_at dksX0_most_1 16 rfl rfl)
theorem dX0_most_41 : decode cX0_most 41 = .ok (.iload_n 3, 1) := dk_29 (dk_at dksX0_most_1 17 rfl rfl)
theorem dX0_most_42 : decode cX0_most 42 = .ok (.invokevirtual 205, 3) := dk_182 0 205 (dk_at dksX0_most_1 18 rfl rfl)
theorem dX0_most_45 : decode cX0_most 45 = .ok (.aload_n 0, 1) := dk_42 (dk_at dksX0_most_1 21 rfl rfl)
theorem dX0_most_46 : decode cX0_most 46 = .ok (.aload_n 0, 1) := dk_42 (dk_at dksX0_most_1 22 rfl rfl)
theorem dX0_most_47 : decode cX0_most 47 = .ok (.getfield 81, 3) := dk_180 0 81 (dk_at dksX0_most_2 0 rfl rfl)
theorem dX0_most_50 : decode cX0_most 50 = .ok (.iload_n 2, 1) := dk_28 (dk_at dksX0_most_2 3 rfl rfl)
theorem dX0_most_51 : decode cX0_most 51 = .ok (.invokevirtual 85, 3) := dk_182 0 85 (dk_at dksX0_most_2 4 rfl rfl)
theorem dX0_most_54 : decode cX0_most 54 = .ok (.aload_n 0, 1) := dk_42 (dk_at dksX0_most_2 7 rfl rfl)
theorem dX0_most_55 : decode cX0_most 55 = .ok (.getfield 28, 3) := dk_180 0 28 (dk_at dksX0_most_2 8 rfl rfl)
theorem dX0_most_58 : decode cX0_most 58 = .ok (.iload_n 1, 1) := dk_27 (dk_at dksX0_most_2 11 rfl rfl)
theorem dX0_most_59 : decode cX0_most 59 = .ok (.invokestatic 281, 3) := dk_184 1 25 (dk_at dksX0_most_2 12 rfl rfl)
theorem dX0_most_62 : decode cX0_most 62 = .ok (.ifCond .eq 5, 3) := dk_153 0 5 (dk_at dksX0_most_2 15 rfl rfl)
theorem dX0_most_65 : decode cX0_most 65 = .ok (.iload_n 3, 1) := dk_29 (dk_at dksX0_most_2 18 rfl rfl)
theorem dX0_most_66 : decode cX0_most 66 = .ok (.ireturn, 1) := dk_172 (dk_at dksX0_most_2 19 rfl rfl)
theorem dX0_most_67 : decode cX0_most 67 = .ok (.iinc 3 (-1), 3) := dk_132 3 255 (dk_at dksX0_most_2 20 rfl rfl)
theorem dX0_most_70 : decode cX0_most 70 = .ok (.goto (-50), 3) := dk_167 255 206 (dk_at dksX0_most_3 0 rfl rfl)
theorem dX0_most_73 : decode cX0_most 73 = .ok (.bipush (-4), 2) := dk_16 252 (dk_at dksX0_most_3 3 rfl rfl)
theorem dX0_most_75 : decode cX0_most 75 = .ok (.ireturn, 1) := dk_172 (dk_at dksX0_most_3 5 rfl rfl)
abbrev cX0_has : ByteArray := prog_1_method_2_code
def yX0_has : MethodName := ⟨RX0, "has", "(II)Z"⟩
def dkwX0_has_0 : List UInt8 := [26, 27, 122, 4, 126, 4, 160, 0, 7, 4, 167, 0, 4, 3, 172]
abbrev dktX0_has_0 : List UInt8 := dkwX0_has_0 ++ []
theorem dksX0_has_0 : cX0_has.data.toList.drop 0 = dktX0_has_0 := by decide +kernel
theorem dX0_has_0 : decode cX0_has 0 = .ok (.iload_n 0, 1) := dk_26 (dk_at dksX0_has_0 0 rfl rfl)
theorem dX0_has_1 : decode cX0_has 1 = .ok (.iload_n 1, 1) := dk_27 (dk_at dksX0_has_0 1 rfl rfl)
theorem dX0_has_2 : decode cX0_has 2 = .ok (.ishr, 1) := dk_122 (dk_at dksX0_has_0 2 rfl rfl)
theorem dX0_has_3 : decode cX0_has 3 = .ok (.iconst 1, 1) := dk_4 (dk_at dksX0_has_0 3 rfl rfl)
theorem dX0_has_4 : decode cX0_has 4 = .ok (.iand, 1) := dk_126 (dk_at dksX0_has_0 4 rfl rfl)
theorem dX0_has_5 : decode cX0_has 5 = .ok (.iconst 1, 1) := dk_4 (dk_at dksX0_has_0 5 rfl rfl)
theorem dX0_has_6 : decode cX0_has 6 = .ok (.if_icmp .ne 7, 3) := dk_160 0 7 (dk_at dksX0_has_0 6 rfl rfl)
theorem dX0_has_9 : decode cX0_has 9 = .ok (.iconst 1, 1) := dk_4 (dk_at dksX0_has_0 9 rfl rfl)
theorem dX0_has_10 : decode cX0_has 10 = .ok (.goto 4, 3) := dk_167 0 4 (dk_at dksX0_has_0 10 rfl rfl)
theorem dX0_has_13 : decode cX0_has 13 = .ok (.iconst 0, 1) := dk_3 (dk_at dksX0_has_0 13 rfl rfl)
theorem dX0_has_14 : decode cX0_has 14 = .ok (.ireturn, 1) := dk_172 (dk_at dksX0_has_0 14 rfl rfl)
abbrev cX0_kind : ByteArray := prog_1_method_47_code
def yX0_kind : MethodName := ⟨RX0, "kind", "(III)I"⟩
def dkwX0_kind_3 : List UInt8 := [182, 1, 0, 132, 4, 1, 167, 255, 214, 42, 29, 182, 1, 22, 172]
abbrev dktX0_kind_3 : List UInt8 := dkwX0_kind_3 ++ []
def dkwX0_kind_2 : List UInt8 := [182, 0, 165, 42, 180, 0, 81, 27, 3, 21, 4, 182, 0, 205, 42, 21, 4, 42, 28, 182, 0, 241]
abbrev dktX0_kind_2 : List UInt8 := dkwX0_kind_2 ++ dktX0_kind_3
def dkwX0_kind_1 : List UInt8 := [42, 18, 251, 182, 0, 244, 3, 54, 4, 21, 4, 7, 162, 0, 42, 42, 180, 0, 81, 42, 180, 0, 109]
abbrev dktX0_kind_1 : List UInt8 := dkwX0_kind_1 ++ dktX0_kind_2
def dkwX0_kind_0 : List UInt8 := [42, 27, 182, 0, 185, 153, 0, 17, 28, 184, 0, 225, 153, 0, 10, 29, 184, 0, 196, 154, 0, 5, 2, 172]
abbrev dktX0_kind_0 : List UInt8 := dkwX0_kind_0 ++ dktX0_kind_1
theorem dksX0_kind_0 : cX0_kind.data.toList.drop 0 = dktX0_kind_0 := by decide +kernel
theorem dksX0_kind_1 : cX0_kind.data.toList.drop 24 = dktX0_kind_1 := dk_seg dksX0_kind_0 24 rfl rfl
theorem dksX0_kind_2 : cX0_kind.data.toList.drop 47 = dktX0_kind_2 := dk_seg dksX0_kind_1 23 rfl rfl
theorem dksX0_kind_3 : cX0_kind.data.toList.drop 69 = dktX0_kind_3 := dk_seg dksX0_kind_2 22 rfl rfl
theorem dX0_kind_0 : decode cX0_kind 0 = .ok (.aload_n 0, 1) := dk_42 (dk_at dksX0_kind_0 0 rfl rfl)
theorem dX0_kind_1 : decode cX0_kind 1 = .ok (.iload_n 1, 1) := dk_27 (dk_at dksX0_kind_0 1 rfl rfl)
theorem dX0_kind_2 : decode cX0_kind 2 = .ok (.invokevirtual 185, 3) := dk_182 0 185 (dk_at dksX0_kind_0 2 rfl rfl)
theorem dX0_kind_5 : decode cX0_kind 5 = .ok (.ifCond .eq 17, 3) := dk_153 0 17 (dk_at dksX0_kind_0 5 rfl rfl)
theorem dX0_kind_8 : decode cX0_kind 8 = .ok (.iload_n 2, 1) := dk_28 (dk_at dksX0_kind_0 8 rfl rfl)
theorem dX0_kind_9 : decode cX0_kind 9 = .ok (.invokestatic 225, 3) := dk_184 0 225 (dk_at dksX0_kind_0 9 rfl rfl)
theorem dX0_kind_12 : decode cX0_kind 12 = .ok (.ifCond .eq 10, 3) := dk_153 0 10 (dk_at dksX0_kind_0 12 rfl rfl)
theorem dX0_kind_15 : decode cX0_kind 15 = .ok (.iload_n 3, 1) := dk_29 (dk_at dksX0_kind_0 15 rfl rfl)
theorem dX0_kind_16 : decode cX0_kind 16 = .ok (.invokestatic 196, 3) := dk_184 0 196 (dk_at dksX0_kind_0 16 rfl rfl)
theorem dX0_kind_19 : decode cX0_kind 19 = .ok (.ifCond .ne 5, 3) := dk_154 0 5 (dk_at dksX0_kind_0 19 rfl rfl)
theorem dX0_kind_22 : decode cX0_kind 22 = .ok (.iconst (-1), 1) := dk_2 (dk_at dksX0_kind_0 22 rfl rfl)
theorem dX0_kind_23 : decode cX0_kind 23 = .ok (.ireturn, 1) := dk_172 (dk_at dksX0_kind_0 23 rfl rfl)
theorem dX0_kind_24 : decode cX0_kind 24 = .ok (.aload_n 0, 1) := dk_42 (dk_at dksX0_kind_1 0 rfl rfl)
theorem dX0_kind_25 : decode cX0_kind 25 = .ok (.ldc 251, 2) := dk_18 251 (dk_at dksX0_kind_1 1 rfl rfl)
theorem dX0_kind_27 : decode cX0_kind 27 = .ok (.invokevirtual 244, 3) := dk_182 0 244 (dk_at dksX0_kind_1 3 rfl rfl)
theorem dX0_kind_30 : decode cX0_kind 30 = .ok (.iconst 0, 1) := dk_3 (dk_at dksX0_kind_1 6 rfl rfl)
theorem dX0_kind_31 : decode cX0_kind 31 = .ok (.istore 4, 2) := dk_54 4 (dk_at dksX0_kind_1 7 rfl rfl)
theorem dX0_kind_33 : decode cX0_kind 33 = .ok (.iload 4, 2) := dk_21 4 (dk_at dksX0_kind_1 9 rfl rfl)
theorem dX0_kind_35 : decode cX0_kind 35 = .ok (.iconst 4, 1) := dk_7 (dk_at dksX0_kind_1 11 rfl rfl)
theorem dX0_kind_36 : decode cX0_kind 36 = .ok (.if_icmp .ge 42, 3) := dk_162 0 42 (dk_at dksX0_kind_1 12 rfl rfl)
theorem dX0_kind_39 : decode cX0_kind 39 = .ok (.aload_n 0, 1) := dk_42 (dk_at dksX0_kind_1 15 rfl rfl)
theorem dX0_kind_40 : decode cX0_kind 40 = .ok (.getfield 81, 3) := dk_180 0 81 (dk_at dksX0_kind_1 16 rfl rfl)
theorem dX0_kind_43 : decode cX0_kind 43 = .ok (.aload_n 0, 1) := dk_42 (dk_at dksX0_kind_1 19 rfl rfl)
theorem dX0_kind_44 : decode cX0_kind 44 = .ok (.getfield 109, 3) := dk_180 0 109 (dk_at dksX0_kind_1 20 rfl rfl)
theorem dX0_kind_47 : decode cX0_kind 47 = .ok (.invokevirtual 165, 3) := dk_182 0 165 (dk_at dksX0_kind_2 0 rfl rfl)
theorem dX0_kind_50 : decode cX0_kind 50 = .ok (.aload_n 0, 1) := dk_42 (dk_at dksX0_kind_2 3 rfl rfl)
theorem dX0_kind_51 : decode cX0_kind 51 = .ok (.getfield 81, 3) := dk_180 0 81 (dk_at dksX0_kind_2 4 rfl rfl)
theorem dX0_kind_54 : decode cX0_kind 54 = .ok (.iload_n 1, 1) := dk_27 (dk_at dksX0_kind_2 7 rfl rfl)
theorem dX0_kind_55 : decode cX0_kind 55 = .ok (.iconst 0, 1) := dk_3 (dk_at dksX0_kind_2 8 rfl rfl)
theorem dX0_kind_56 : decode cX0_kind 56 = .ok (.iload 4, 2) := dk_21 4 (dk_at dksX0_kind_2 9 rfl rfl)
theorem dX0_kind_58 : decode cX0_kind 58 = .ok (.invokevirtual 205, 3) := dk_182 0 205 (dk_at dksX0_kind_2 11 rfl rfl)
theorem dX0_kind_61 : decode cX0_kind 61 = .ok (.aload_n 0, 1) := dk_42 (dk_at dksX0_kind_2 14 rfl rfl)
theorem dX0_kind_62 : decode cX0_kind 62 = .ok (.iload 4, 2) := dk_21 4 (dk_at dksX0_kind_2 15 rfl rfl)
theorem dX0_kind_64 : decode cX0_kind 64 = .ok (.aload_n 0, 1) := dk_42 (dk_at dksX0_kind_2 17 rfl rfl)
theorem dX0_kind_65 : decode cX0_kind 65 = .ok (.iload_n 2, 1) := dk_28 (dk_at dksX0_kind_2 18 rfl rfl)
theorem dX0_kind_66 : decode cX0_kind 66 = .ok (.invokevirtual 241, 3) := dk_182 0 241 (dk_at dksX0_kind_2 19 rfl rfl)
theorem dX0_kind_69 : decode cX0_kind 69 = .ok (.invokevirtual 256, 3) := dk_182 1 0 (dk_at dksX0_kind_3 0 rfl rfl)
theorem dX0_kind_72 : decode cX0_kind 72 = .ok (.iinc 4 1, 3) := dk_132 4 1 (dk_at dksX0_kind_3 3 rfl rfl)
theorem dX0_kind_75 : decode cX0_kind 75 = .ok (.goto (-42), 3) := dk_167 255 214 (dk_at dksX0_kind_3 6 rfl rfl)
theorem dX0_kind_78 : decode cX0_kind 78 = .ok (.aload_n 0, 1) := dk_42 (dk_at dksX0_kind_3 9 rfl rfl)
theorem dX0_kind_79 : decode cX0_kind 79 = .ok (.iload_n 3, 1) := dk_29 (dk_at dksX0_kind_3 10 rfl rfl)
theorem dX0_kind_80 : decode cX0_kind 80 = .ok (.invokevirtual 278, 3) := dk_182 1 22 (dk_at dksX0_kind_3 11 rfl rfl)
theorem dX0_kind_83 : decode cX0_kind 83 = .ok (.ireturn, 1) := dk_172 (dk_at dksX0_kind_3 14 rfl rfl)
abbrev cX0_luck : ByteArray := prog_1_method_50_code
def yX0_luck : MethodName := ⟨RX0, "luck", "(IIII)J"⟩
def dkwX0_luck_2 : List UInt8 := [29, 182, 1, 42, 42, 180, 1, 28, 42, 180, 1, 35, 21, 4, 184, 1, 45, 173]
abbrev dktX0_luck_2 : List UInt8 := dkwX0_luck_2 ++ []
def dkwX0_luck_1 : List UInt8 := [20, 1, 38, 184, 0, 144, 153, 0, 11, 21, 4, 184, 0, 196, 154, 0, 7, 20, 1, 40, 173, 42, 27, 28]
abbrev dktX0_luck_1 : List UInt8 := dkwX0_luck_1 ++ dktX0_luck_2
def dkwX0_luck_0 : List UInt8 := [27, 133, 9, 20, 1, 12, 184, 0, 144, 153, 0, 31, 42, 28, 182, 0, 185, 153, 0, 23, 29, 133, 9]
abbrev dktX0_luck_0 : List UInt8 := dkwX0_luck_0 ++ dktX0_luck_1
theorem dksX0_luck_0 : cX0_luck.data.toList.drop 0 = dktX0_luck_0 := by decide +kernel
theorem dksX0_luck_1 : cX0_luck.data.toList.drop 23 = dktX0_luck_1 := dk_seg dksX0_luck_0 23 rfl rfl
theorem dksX0_luck_2 : cX0_luck.data.toList.drop 47 = dktX0_luck_2 := dk_seg dksX0_luck_1 24 rfl rfl
theorem dX0_luck_0 : decode cX0_luck 0 = .ok (.iload_n 1, 1) := dk_27 (dk_at dksX0_luck_0 0 rfl rfl)
theorem dX0_luck_1 : decode cX0_luck 1 = .ok (.i2l, 1) := dk_133 (dk_at dksX0_luck_0 1 rfl rfl)
theorem dX0_luck_2 : decode cX0_luck 2 = .ok (.lconst 0, 1) := dk_9 (dk_at dksX0_luck_0 2 rfl rfl)
theorem dX0_luck_3 : decode cX0_luck 3 = .ok (.ldc2_w 268, 3) := dk_20 1 12 (dk_at dksX0_luck_0 3 rfl rfl)
theorem dX0_luck_6 : decode cX0_luck 6 = .ok (.invokestatic 144, 3) := dk_184 0 144 (dk_at dksX0_luck_0 6 rfl rfl)
theorem dX0_luck_9 : decode cX0_luck 9 = .ok (.ifCond .eq 31, 3) := dk_153 0 31 (dk_at dksX0_luck_0 9 rfl rfl)
theorem dX0_luck_12 : decode cX0_luck 12 = .ok (.aload_n 0, 1) := dk_42 (dk_at dksX0_luck_0 12 rfl rfl)
theorem dX0_luck_13 : decode cX0_luck 13 = .ok (.iload_n 2, 1) := dk_28 (dk_at dksX0_luck_0 13 rfl rfl)
theorem dX0_luck_14 : decode cX0_luck 14 = .ok (.invokevirtual 185, 3) := dk_182 0 185 (dk_at dksX0_luck_0 14 rfl rfl)
theorem dX0_luck_17 : decode cX0_luck 17 = .ok (.ifCond .eq 23, 3) := dk_153 0 23 (dk_at dksX0_luck_0 17 rfl rfl)
theorem dX0_luck_20 : decode cX0_luck 20 = .ok (.iload_n 3, 1) := dk_29 (dk_at dksX0_luck_0 20 rfl rfl)
theorem dX0_luck_21 : decode cX0_luck 21 = .ok (.i2l, 1) := dk_133 (dk_at dksX0_luck_0 21 rfl rfl)
theorem dX0_luck_22 : decode cX0_luck 22 = .ok (.lconst 0, 1) := dk_9 (dk_at dksX0_luck_0 22 rfl rfl)
theorem dX0_luck_23 : decode cX0_luck 23 = .ok (.ldc2_w 294, 3) := dk_20 1 38 (dk_at dksX0_luck_1 0 rfl rfl)
theorem dX0_luck_26 : decode cX0_luck 26 = .ok (.invokestatic 144, 3) := dk_184 0 144 (dk_at dksX0_luck_1 3 rfl rfl)
theorem dX0_luck_29 : decode cX0_luck 29 = .ok (.ifCond .eq 11, 3) := dk_153 0 11 (dk_at dksX0_luck_1 6 rfl rfl)
theorem dX0_luck_32 : decode cX0_luck 32 = .ok (.iload 4, 2) := dk_21 4 (dk_at dksX0_luck_1 9 rfl rfl)
theorem dX0_luck_34 : decode cX0_luck 34 = .ok (.invokestatic 196, 3) := dk_184 0 196 (dk_at dksX0_luck_1 11 rfl rfl)
theorem dX0_luck_37 : decode cX0_luck 37 = .ok (.ifCond .ne 7, 3) := dk_154 0 7 (dk_at dksX0_luck_1 14 rfl rfl)
theorem dX0_luck_40 : decode cX0_luck 40 = .ok (.ldc2_w 296, 3) := dk_20 1 40 (dk_at dksX0_luck_1 17 rfl rfl)
theorem dX0_luck_43 : decode cX0_luck 43 = .ok (.lreturn, 1) := dk_173 (dk_at dksX0_luck_1 20 rfl rfl)
theorem dX0_luck_44 : decode cX0_luck 44 = .ok (.aload_n 0, 1) := dk_42 (dk_at dksX0_luck_1 21 rfl rfl)
theorem dX0_luck_45 : decode cX0_luck 45 = .ok (.iload_n 1, 1) := dk_27 (dk_at dksX0_luck_1 22 rfl rfl)
theorem dX0_luck_46 : decode cX0_luck 46 = .ok (.iload_n 2, 1) := dk_28 (dk_at dksX0_luck_1 23 rfl rfl)
theorem dX0_luck_47 : decode cX0_luck 47 = .ok (.iload_n 3, 1) := dk_29 (dk_at dksX0_luck_2 0 rfl rfl)
theorem dX0_luck_48 : decode cX0_luck 48 = .ok (.invokevirtual 298, 3) := dk_182 1 42 (dk_at dksX0_luck_2 1 rfl rfl)
theorem dX0_luck_51 : decode cX0_luck 51 = .ok (.aload_n 0, 1) := dk_42 (dk_at dksX0_luck_2 4 rfl rfl)
theorem dX0_luck_52 : decode cX0_luck 52 = .ok (.getfield 284, 3) := dk_180 1 28 (dk_at dksX0_luck_2 5 rfl rfl)
theorem dX0_luck_55 : decode cX0_luck 55 = .ok (.aload_n 0, 1) := dk_42 (dk_at dksX0_luck_2 8 rfl rfl)
theorem dX0_luck_56 : decode cX0_luck 56 = .ok (.getfield 291, 3) := dk_180 1 35 (dk_at dksX0_luck_2 9 rfl rfl)
theorem dX0_luck_59 : decode cX0_luck 59 = .ok (.iload 4, 2) := dk_21 4 (dk_at dksX0_luck_2 12 rfl rfl)
theorem dX0_luck_61 : decode cX0_luck 61 = .ok (.invokestatic 301, 3) := dk_184 1 45 (dk_at dksX0_luck_2 14 rfl rfl)
theorem dX0_luck_64 : decode cX0_luck 64 = .ok (.lreturn, 1) := dk_173 (dk_at dksX0_luck_2 17 rfl rfl)
abbrev cX0_findOdds : ByteArray := prog_1_method_49_code
def yX0_findOdds : MethodName := ⟨RX0, "findOdds", "(III)V"⟩
def dkwX0_findOdds_7 : List UInt8 := [167, 255, 114, 177]
abbrev dktX0_findOdds_7 : List UInt8 := dkwX0_findOdds_7 ++ []
def dkwX0_findOdds_6 : List UInt8 := [180, 1, 32, 22, 5, 42, 180, 0, 81, 6, 182, 0, 89, 133, 105, 97, 181, 1, 32, 132, 4, 1]
abbrev dktX0_findOdds_6 : List UInt8 := dkwX0_findOdds_6 ++ dktX0_findOdds_7
def dkwX0_findOdds_5 : List UInt8 := [180, 0, 28, 28, 184, 1, 25, 153, 0, 8, 22, 5, 167, 0, 4, 9, 97, 181, 1, 28, 42, 89]
abbrev dktX0_findOdds_5 : List UInt8 := dkwX0_findOdds_5 ++ dktX0_findOdds_6
def dkwX0_findOdds_4 : List UInt8 := [132, 7, 1, 167, 255, 207, 42, 89, 180, 1, 35, 22, 5, 97, 181, 1, 35, 42, 89, 180, 1, 28, 42]
abbrev dktX0_findOdds_4 : List UInt8 := dkwX0_findOdds_4 ++ dktX0_findOdds_5
def dkwX0_findOdds_3 : List UInt8 := [16, 10, 27, 100, 133, 105, 55, 5, 42, 42, 180, 0, 81, 21, 4, 21, 7, 184, 1, 25, 182, 0, 77]
abbrev dktX0_findOdds_3 : List UInt8 := dkwX0_findOdds_3 ++ dktX0_findOdds_4
def dkwX0_findOdds_2 : List UInt8 := [21, 7, 29, 162, 0, 49, 22, 5, 21, 4, 21, 7, 184, 1, 25, 153, 0, 8, 27, 133, 167, 0, 8]
abbrev dktX0_findOdds_2 : List UInt8 := dkwX0_findOdds_2 ++ dktX0_findOdds_3
def dkwX0_findOdds_1 : List UInt8 := [162, 0, 140, 10, 55, 5, 42, 180, 0, 81, 42, 180, 0, 109, 182, 0, 165, 42, 182, 0, 74, 3, 54, 7]
abbrev dktX0_findOdds_1 : List UInt8 := dkwX0_findOdds_1 ++ dktX0_findOdds_2
def dkwX0_findOdds_0 : List UInt8 := [42, 9, 181, 1, 28, 42, 9, 181, 1, 32, 42, 9, 181, 1, 35, 3, 54, 4, 21, 4, 4, 29, 120]
abbrev dktX0_findOdds_0 : List UInt8 := dkwX0_findOdds_0 ++ dktX0_findOdds_1
theorem dksX0_findOdds_0 : cX0_findOdds.data.toList.drop 0 = dktX0_findOdds_0 := by decide +kernel
theorem dksX0_findOdds_1 : cX0_findOdds.data.toList.drop 23 = dktX0_findOdds_1 := dk_seg dksX0_findOdds_0 23 rfl rfl
theorem dksX0_findOdds_2 : cX0_findOdds.data.toList.drop 47 = dktX0_findOdds_2 := dk_seg dksX0_findOdds_1 24 rfl rfl
theorem dksX0_findOdds_3 : cX0_findOdds.data.toList.drop 70 = dktX0_findOdds_3 := dk_seg dksX0_findOdds_2 23 rfl rfl
theorem dksX0_findOdds_4 : cX0_findOdds.data.toList.drop 93 = dktX0_findOdds_4 := dk_seg dksX0_findOdds_3 23 rfl rfl
theorem dksX0_findOdds_5 : cX0_findOdds.data.toList.drop 116 = dktX0_findOdds_5 := dk_seg dksX0_findOdds_4 23 rfl rfl
theorem dksX0_findOdds_6 : cX0_findOdds.data.toList.drop 138 = dktX0_findOdds_6 := dk_seg dksX0_findOdds_5 22 rfl rfl
theorem dksX0_findOdds_7 : cX0_findOdds.data.toList.drop 160 = dktX0_findOdds_7 := dk_seg dksX0_findOdds_6 22 rfl rfl
theorem dX0_findOdds_0 : decode cX0_findOdds 0 = .ok (.aload_n 0, 1) := dk_42 (dk_at dksX0_findOdds_0 0 rfl rfl)
theorem dX0_findOdds_1 : decode cX0_findOdds 1 = .ok (.lconst 0, 1) := dk_9 (dk_at dksX0_findOdds_0 1 rfl rfl)
theorem dX0_findOdds_2 : decode cX0_findOdds 2 = .ok (.putfield 284, 3) := dk_181 1 28 (dk_at dksX0_findOdds_0 2 rfl rfl)
theorem dX0_findOdds_5 : decode cX0_findOdds 5 = .ok (.aload_n 0, 1) := dk_42 (dk_at dksX0_findOdds_0 5 rfl rfl)
theorem dX0_findOdds_6 : decode cX0_findOdds 6 = .ok (.lconst 0, 1) := dk_9 (dk_at dksX0_findOdds_0 6 rfl rfl)
theorem dX0_findOdds_7 : decode cX0_findOdds 7 = .ok (.putfield 288, 3) := dk_181 1 32 (dk_at dksX0_findOdds_0 7 rfl rfl)
theorem dX0_findOdds_10 : decode cX0_findOdds 10 = .ok (.aload_n 0, 1) := dk_42 (dk_at dksX0_findOdds_0 10 rfl rfl)
theorem dX0_findOdds_11 : decode cX0_findOdds 11 = .ok (.lconst 0, 1) := dk_9 (dk_at dksX0_findOdds_0 11 rfl rfl)
theorem dX0_findOdds_12 : decode cX0_findOdds 12 = .ok (.putfield 291, 3) := dk_181 1 35 (dk_at dksX0_findOdds_0 12 rfl rfl)
theorem dX0_findOdds_15 : decode cX0_findOdds 15 = .ok (.iconst 0, 1) := dk_3 (dk_at dksX0_findOdds_0 15 rfl rfl)
theorem dX0_findOdds_16 : decode cX0_findOdds 16 = .ok (.istore 4, 2) := dk_54 4 (dk_at dksX0_findOdds_0 16 rfl rfl)
theorem dX0_findOdds_18 : decode cX0_findOdds 18 = .ok (.iload 4, 2) := dk_21 4 (dk_at dksX0_findOdds_0 18 rfl rfl)
theorem dX0_findOdds_20 : decode cX0_findOdds 20 = .ok (.iconst 1, 1) := dk_4 (dk_at dksX0_findOdds_0 20 rfl rfl)
theorem dX0_findOdds_21 : decode cX0_findOdds 21 = .ok (.iload_n 3, 1) := dk_29 (dk_at dksX0_findOdds_0 21 rfl rfl)
theorem dX0_findOdds_22 : decode cX0_findOdds 22 = .ok (.ishl, 1) := dk_120 (dk_at dksX0_findOdds_0 22 rfl rfl)
theorem dX0_findOdds_23 : decode cX0_findOdds 23 = .ok (.if_icmp .ge 140, 3) := dk_162 0 140 (dk_at dksX0_findOdds_1 0 rfl rfl)
theorem dX0_findOdds_26 : decode cX0_findOdds 26 = .ok (.lconst 1, 1) := dk_10 (dk_at dksX0_findOdds_1 3 rfl rfl)
theorem dX0_findOdds_27 : decode cX0_findOdds 27 = .ok (.lstore 5, 2) := dk_55 5 (dk_at dksX0_findOdds_1 4 rfl rfl)
theorem dX0_findOdds_29 : decode cX0_findOdds 29 = .ok (.aload_n 0, 1) := dk_42 (dk_at dksX0_findOdds_1 6 rfl rfl)
theorem dX0_findOdds_30 : decode cX0_findOdds 30 = .ok (.getfield 81, 3) := dk_180 0 81 (dk_at dksX0_findOdds_1 7 rfl rfl)
theorem dX0_findOdds_33 : decode cX0_findOdds 33 = .ok (.aload_n 0, 1) := dk_42 (dk_at dksX0_findOdds_1 10 rfl rfl)
theorem dX0_findOdds_34 : decode cX0_findOdds 34 = .ok (.getfield 109, 3) := dk_180 0 109 (dk_at dksX0_findOdds_1 11 rfl rfl)
theorem dX0_findOdds_37 : decode cX0_findOdds 37 = .ok (.invokevirtual 165, 3) := dk_182 0 165 (dk_at dksX0_findOdds_1 14 rfl rfl)
theorem dX0_findOdds_40 : decode cX0_findOdds 40 = .ok (.aload_n 0, 1) := dk_42 (dk_at dksX0_findOdds_1 17 rfl rfl)
theorem dX0_findOdds_41 : decode cX0_findOdds 41 = .ok (.invokevirtual 74, 3) := dk_182 0 74 (dk_at dksX0_findOdds_1 18 rfl rfl)
theorem dX0_findOdds_44 : decode cX0_findOdds 44 = .ok (.iconst 0, 1) := dk_3 (dk_at dksX0_findOdds_1 21 rfl rfl)
theorem dX0_findOdds_45 : decode cX0_findOdds 45 = .ok (.istore 7, 2) := dk_54 7 (dk_at dksX0_findOdds_1 22 rfl rfl)
theorem dX0_findOdds_47 : decode cX0_findOdds 47 = .ok (.iload 7, 2) := dk_21 7 (dk_at dksX0_findOdds_2 0 rfl rfl)
theorem dX0_findOdds_49 : decode cX0_findOdds 49 = .ok (.iload_n 3, 1) := dk_29 (dk_at dksX0_findOdds_2 2 rfl rfl)
theorem dX0_findOdds_50 : decode cX0_findOdds 50 = .ok (.if_icmp .ge 49, 3) := dk_162 0 49 (dk_at dksX0_findOdds_2 3 rfl rfl)
theorem dX0_findOdds_53 : decode cX0_findOdds 53 = .ok (.lload 5, 2) := dk_22 5 (dk_at dksX0_findOdds_2 6 rfl rfl)
theorem dX0_findOdds_55 : decode cX0_findOdds 55 = .ok (.iload 4, 2) := dk_21 4 (dk_at dksX0_findOdds_2 8 rfl rfl)
theorem dX0_findOdds_57 : decode cX0_findOdds 57 = .ok (.iload 7, 2) := dk_21 7 (dk_at dksX0_findOdds_2 10 rfl rfl)
theorem dX0_findOdds_59 : decode cX0_findOdds 59 = .ok (.invokestatic 281, 3) := dk_184 1 25 (dk_at dksX0_findOdds_2 12 rfl rfl)
theorem dX0_findOdds_62 : decode cX0_findOdds 62 = .ok (.ifCond .eq 8, 3) := dk_153 0 8 (dk_at dksX0_findOdds_2 15 rfl rfl)
theorem dX0_findOdds_65 : decode cX0_findOdds 65 = .ok (.iload_n 1, 1) := dk_27 (dk_at dksX0_findOdds_2 18 rfl rfl)
theorem dX0_findOdds_66 : decode cX0_findOdds 66 = .ok (.i2l, 1) := dk_133 (dk_at dksX0_findOdds_2 19 rfl rfl)
theorem dX0_findOdds_67 : decode cX0_findOdds 67 = .ok (.goto 8, 3) := dk_167 0 8 (dk_at dksX0_findOdds_2 20 rfl rfl)
theorem dX0_findOdds_70 : decode cX0_findOdds 70 = .ok (.bipush 10, 2) := dk_16 10 (dk_at dksX0_findOdds_3 0 rfl rfl)
theorem dX0_findOdds_72 : decode cX0_findOdds 72 = .ok (.iload_n 1, 1) := dk_27 (dk_at dksX0_findOdds_3 2 rfl rfl)
theorem dX0_findOdds_73 : decode cX0_findOdds 73 = .ok (.isub, 1) := dk_100 (dk_at dksX0_findOdds_3 3 rfl rfl)
theorem dX0_findOdds_74 : decode cX0_findOdds 74 = .ok (.i2l, 1) := dk_133 (dk_at dksX0_findOdds_3 4 rfl rfl)
theorem dX0_findOdds_75 : decode cX0_findOdds 75 = .ok (.lmul, 1) := dk_105 (dk_at dksX0_findOdds_3 5 rfl rfl)
theorem dX0_findOdds_76 : decode cX0_findOdds 76 = .ok (.lstore 5, 2) := dk_55 5 (dk_at dksX0_findOdds_3 6 rfl rfl)
theorem dX0_findOdds_78 : decode cX0_findOdds 78 = .ok (.aload_n 0, 1) := dk_42 (dk_at dksX0_findOdds_3 8 rfl rfl)
theorem dX0_findOdds_79 : decode cX0_findOdds 79 = .ok (.aload_n 0, 1) := dk_42 (dk_at dksX0_findOdds_3 9 rfl rfl)
theorem dX0_findOdds_80 : decode cX0_findOdds 80 = .ok (.getfield 81, 3) := dk_180 0 81 (dk_at dksX0_findOdds_3 10 rfl rfl)
theorem dX0_findOdds_83 : decode cX0_findOdds 83 = .ok (.iload 4, 2) := dk_21 4 (dk_at dksX0_findOdds_3 13 rfl rfl)
theorem dX0_findOdds_85 : decode cX0_findOdds 85 = .ok (.iload 7, 2) := dk_21 7 (dk_at dksX0_findOdds_3 15 rfl rfl)
theorem dX0_findOdds_87 : decode cX0_findOdds 87 = .ok (.invokestatic 281, 3) := dk_184 1 25 (dk_at dksX0_findOdds_3 17 rfl rfl)
theorem dX0_findOdds_90 : decode cX0_findOdds 90 = .ok (.invokevirtual 77, 3) := dk_182 0 77 (dk_at dksX0_findOdds_3 20 rfl rfl)
theorem dX0_findOdds_93 : decode cX0_findOdds 93 = .ok (.iinc 7 1, 3) := dk_132 7 1 (dk_at dksX0_findOdds_4 0 rfl rfl)
theorem dX0_findOdds_96 : decode cX0_findOdds 96 = .ok (.goto (-49), 3) := dk_167 255 207 (dk_at dksX0_findOdds_4 3 rfl rfl)
theorem dX0_findOdds_99 : decode cX0_findOdds 99 = .ok (.aload_n 0, 1) := dk_42 (dk_at dksX0_findOdds_4 6 rfl rfl)
theorem dX0_findOdds_100 : decode cX0_findOdds 100 = .ok (.dup, 1) := dk_89 (dk_at dksX0_findOdds_4 7 rfl rfl)
theorem dX0_findOdds_101 : decode cX0_findOdds 101 = .ok (.getfield 291, 3) := dk_180 1 35 (dk_at dksX0_findOdds_4 8 rfl rfl)
theorem dX0_findOdds_104 : decode cX0_findOdds 104 = .ok (.lload 5, 2) := dk_22 5 (dk_at dksX0_findOdds_4 11 rfl rfl)
theorem dX0_findOdds_106 : decode cX0_findOdds 106 = .ok (.ladd, 1) := dk_97 (dk_at dksX0_findOdds_4 13 rfl rfl)
theorem dX0_findOdds_107 : decode cX0_findOdds 107 = .ok (.putfield 291, 3) := dk_181 1 35 (dk_at dksX0_findOdds_4 14 rfl rfl)
theorem dX0_findOdds_110 : decode cX0_findOdds 110 = .ok (.aload_n 0, 1) := dk_42 (dk_at dksX0_findOdds_4 17 rfl rfl)
theorem dX0_findOdds_111 : decode cX0_findOdds 111 = .ok (.dup, 1) := dk_89 (dk_at dksX0_findOdds_4 18 rfl rfl)
theorem dX0_findOdds_112 : decode cX0_findOdds 112 = .ok (.getfield 284, 3) := dk_180 1 28 (dk_at dksX0_findOdds_4 19 rfl rfl)
theorem dX0_findOdds_115 : decode cX0_findOdds 115 = .ok (.aload_n 0, 1) := dk_42 (dk_at dksX0_findOdds_4 22 rfl rfl)
theorem dX0_findOdds_116 : decode cX0_findOdds 116 = .ok (.getfield 28, 3) := dk_180 0 28 (dk_at dksX0_findOdds_5 0 rfl rfl)
theorem dX0_findOdds_119 : decode cX0_findOdds 119 = .ok (.iload_n 2, 1) := dk_28 (dk_at dksX0_findOdds_5 3 rfl rfl)
theorem dX0_findOdds_120 : decode cX0_findOdds 120 = .ok (.invokestatic 281, 3) := dk_184 1 25 (dk_at dksX0_findOdds_5 4 rfl rfl)
theorem dX0_findOdds_123 : decode cX0_findOdds 123 = .ok (.ifCond .eq 8, 3) := dk_153 0 8 (dk_at dksX0_findOdds_5 7 rfl rfl)
theorem dX0_findOdds_126 : decode cX0_findOdds 126 = .ok (.lload 5, 2) := dk_22 5 (dk_at dksX0_findOdds_5 10 rfl rfl)
theorem dX0_findOdds_128 : decode cX0_findOdds 128 = .ok (.goto 4, 3) := dk_167 0 4 (dk_at dksX0_findOdds_5 12 rfl rfl)
theorem dX0_findOdds_131 : decode cX0_findOdds 131 = .ok (.lconst 0, 1) := dk_9 (dk_at dksX0_findOdds_5 15 rfl rfl)
theorem dX0_findOdds_132 : decode cX0_findOdds 132 = .ok (.ladd, 1) := dk_97 (dk_at dksX0_findOdds_5 16 rfl rfl)
theorem dX0_findOdds_133 : decode cX0_findOdds 133 = .ok (.putfield 284, 3) := dk_181 1 28 (dk_at dksX0_findOdds_5 17 rfl rfl)
theorem dX0_findOdds_136 : decode cX0_findOdds 136 = .ok (.aload_n 0, 1) := dk_42 (dk_at dksX0_findOdds_5 20 rfl rfl)
theorem dX0_findOdds_137 : decode cX0_findOdds 137 = .ok (.dup, 1) := dk_89 (dk_at dksX0_findOdds_5 21 rfl rfl)
theorem dX0_findOdds_138 : decode cX0_findOdds 138 = .ok (.getfield 288, 3) := dk_180 1 32 (dk_at dksX0_findOdds_6 0 rfl rfl)
theorem dX0_findOdds_141 : decode cX0_findOdds 141 = .ok (.lload 5, 2) := dk_22 5 (dk_at dksX0_findOdds_6 3 rfl rfl)
theorem dX0_findOdds_143 : decode cX0_findOdds 143 = .ok (.aload_n 0, 1) := dk_42 (dk_at dksX0_findOdds_6 5 rfl rfl)
theorem dX0_findOdds_144 : decode cX0_findOdds 144 = .ok (.getfield 81, 3) := dk_180 0 81 (dk_at dksX0_findOdds_6 6 rfl rfl)
theorem dX0_findOdds_147 : decode cX0_findOdds 147 = .ok (.iconst 3, 1) := dk_6 (dk_at dksX0_findOdds_6 9 rfl rfl)
theorem dX0_findOdds_148 : decode cX0_findOdds 148 = .ok (.invokevirtual 89, 3) := dk_182 0 89 (dk_at dksX0_findOdds_6 10 rfl rfl)
theorem dX0_findOdds_151 : decode cX0_findOdds 151 = .ok (.i2l, 1) := dk_133 (dk_at dksX0_findOdds_6 13 rfl rfl)
theorem dX0_findOdds_152 : decode cX0_findOdds 152 = .ok (.lmul, 1) := dk_105 (dk_at dksX0_findOdds_6 14 rfl rfl)
theorem dX0_findOdds_153 : decode cX0_findOdds 153 = .ok (.ladd, 1) := dk_97 (dk_at dksX0_findOdds_6 15 rfl rfl)
theorem dX0_findOdds_154 : decode cX0_findOdds 154 = .ok (.putfield 288, 3) := dk_181 1 32 (dk_at dksX0_findOdds_6 16 rfl rfl)
theorem dX0_findOdds_157 : decode cX0_findOdds 157 = .ok (.iinc 4 1, 3) := dk_132 4 1 (dk_at dksX0_findOdds_6 19 rfl rfl)
theorem dX0_findOdds_160 : decode cX0_findOdds 160 = .ok (.goto (-142), 3) := dk_167 255 114 (dk_at dksX0_findOdds_7 0 rfl rfl)
theorem dX0_findOdds_163 : decode cX0_findOdds 163 = .ok (.return_, 1) := dk_177 (dk_at dksX0_findOdds_7 3 rfl rfl)
abbrev cX0_lowest : ByteArray := prog_1_method_48_code
def yX0_lowest : MethodName := ⟨RX0, "lowest", "(JJI)J"⟩
def dkwX0_lowest_1 : List UInt8 := [22, 9, 55, 7, 167, 255, 234, 21, 4, 154, 0, 10, 30, 22, 5, 109, 167, 0, 7, 32, 22, 5, 109, 173]
abbrev dktX0_lowest_1 : List UInt8 := dkwX0_lowest_1 ++ []
def dkwX0_lowest_0 : List UInt8 := [32, 55, 5, 30, 55, 7, 22, 7, 9, 148, 153, 0, 21, 22, 5, 22, 7, 113, 55, 9, 22, 7, 55, 5]
abbrev dktX0_lowest_0 : List UInt8 := dkwX0_lowest_0 ++ dktX0_lowest_1
theorem dksX0_lowest_0 : cX0_lowest.data.toList.drop 0 = dktX0_lowest_0 := by decide +kernel
theorem dksX0_lowest_1 : cX0_lowest.data.toList.drop 24 = dktX0_lowest_1 := dk_seg dksX0_lowest_0 24 rfl rfl
theorem dX0_lowest_0 : decode cX0_lowest 0 = .ok (.lload_n 2, 1) := dk_32 (dk_at dksX0_lowest_0 0 rfl rfl)
theorem dX0_lowest_1 : decode cX0_lowest 1 = .ok (.lstore 5, 2) := dk_55 5 (dk_at dksX0_lowest_0 1 rfl rfl)
theorem dX0_lowest_3 : decode cX0_lowest 3 = .ok (.lload_n 0, 1) := dk_30 (dk_at dksX0_lowest_0 3 rfl rfl)
theorem dX0_lowest_4 : decode cX0_lowest 4 = .ok (.lstore 7, 2) := dk_55 7 (dk_at dksX0_lowest_0 4 rfl rfl)
theorem dX0_lowest_6 : decode cX0_lowest 6 = .ok (.lload 7, 2) := dk_22 7 (dk_at dksX0_lowest_0 6 rfl rfl)
theorem dX0_lowest_8 : decode cX0_lowest 8 = .ok (.lconst 0, 1) := dk_9 (dk_at dksX0_lowest_0 8 rfl rfl)
theorem dX0_lowest_9 : decode cX0_lowest 9 = .ok (.lcmp, 1) := dk_148 (dk_at dksX0_lowest_0 9 rfl rfl)
theorem dX0_lowest_10 : decode cX0_lowest 10 = .ok (.ifCond .eq 21, 3) := dk_153 0 21 (dk_at dksX0_lowest_0 10 rfl rfl)
theorem dX0_lowest_13 : decode cX0_lowest 13 = .ok (.lload 5, 2) := dk_22 5 (dk_at dksX0_lowest_0 13 rfl rfl)
theorem dX0_lowest_15 : decode cX0_lowest 15 = .ok (.lload 7, 2) := dk_22 7 (dk_at dksX0_lowest_0 15 rfl rfl)
theorem dX0_lowest_17 : decode cX0_lowest 17 = .ok (.lrem, 1) := dk_113 (dk_at dksX0_lowest_0 17 rfl rfl)
theorem dX0_lowest_18 : decode cX0_lowest 18 = .ok (.lstore 9, 2) := dk_55 9 (dk_at dksX0_lowest_0 18 rfl rfl)
theorem dX0_lowest_20 : decode cX0_lowest 20 = .ok (.lload 7, 2) := dk_22 7 (dk_at dksX0_lowest_0 20 rfl rfl)
theorem dX0_lowest_22 : decode cX0_lowest 22 = .ok (.lstore 5, 2) := dk_55 5 (dk_at dksX0_lowest_0 22 rfl rfl)
theorem dX0_lowest_24 : decode cX0_lowest 24 = .ok (.lload 9, 2) := dk_22 9 (dk_at dksX0_lowest_1 0 rfl rfl)
theorem dX0_lowest_26 : decode cX0_lowest 26 = .ok (.lstore 7, 2) := dk_55 7 (dk_at dksX0_lowest_1 2 rfl rfl)
theorem dX0_lowest_28 : decode cX0_lowest 28 = .ok (.goto (-22), 3) := dk_167 255 234 (dk_at dksX0_lowest_1 4 rfl rfl)
theorem dX0_lowest_31 : decode cX0_lowest 31 = .ok (.iload 4, 2) := dk_21 4 (dk_at dksX0_lowest_1 7 rfl rfl)
theorem dX0_lowest_33 : decode cX0_lowest 33 = .ok (.ifCond .ne 10, 3) := dk_154 0 10 (dk_at dksX0_lowest_1 9 rfl rfl)
theorem dX0_lowest_36 : decode cX0_lowest 36 = .ok (.lload_n 0, 1) := dk_30 (dk_at dksX0_lowest_1 12 rfl rfl)
theorem dX0_lowest_37 : decode cX0_lowest 37 = .ok (.lload 5, 2) := dk_22 5 (dk_at dksX0_lowest_1 13 rfl rfl)
theorem dX0_lowest_39 : decode cX0_lowest 39 = .ok (.ldiv, 1) := dk_109 (dk_at dksX0_lowest_1 15 rfl rfl)
theorem dX0_lowest_40 : decode cX0_lowest 40 = .ok (.goto 7, 3) := dk_167 0 7 (dk_at dksX0_lowest_1 16 rfl rfl)
theorem dX0_lowest_43 : decode cX0_lowest 43 = .ok (.lload_n 2, 1) := dk_32 (dk_at dksX0_lowest_1 19 rfl rfl)
theorem dX0_lowest_44 : decode cX0_lowest 44 = .ok (.lload 5, 2) := dk_22 5 (dk_at dksX0_lowest_1 20 rfl rfl)
theorem dX0_lowest_46 : decode cX0_lowest 46 = .ok (.ldiv, 1) := dk_109 (dk_at dksX0_lowest_1 22 rfl rfl)
theorem dX0_lowest_47 : decode cX0_lowest 47 = .ok (.lreturn, 1) := dk_173 (dk_at dksX0_lowest_1 23 rfl rfl)
abbrev cX0_mean : ByteArray := prog_1_method_51_code
def yX0_mean : MethodName := ⟨RX0, "mean", "(III)J"⟩
def dkwX0_mean_2 : List UInt8 := [180, 1, 35, 29, 184, 1, 45, 173]
abbrev dktX0_mean_2 : List UInt8 := dkwX0_mean_2 ++ []
def dkwX0_mean_1 : List UInt8 := [29, 184, 0, 196, 154, 0, 7, 20, 1, 40, 173, 42, 27, 3, 28, 182, 1, 42, 42, 180, 1, 32, 42]
abbrev dktX0_mean_1 : List UInt8 := dkwX0_mean_1 ++ dktX0_mean_2
def dkwX0_mean_0 : List UInt8 := [27, 133, 9, 20, 1, 12, 184, 0, 144, 153, 0, 22, 28, 133, 9, 20, 1, 38, 184, 0, 144, 153, 0, 10]
abbrev dktX0_mean_0 : List UInt8 := dkwX0_mean_0 ++ dktX0_mean_1
theorem dksX0_mean_0 : cX0_mean.data.toList.drop 0 = dktX0_mean_0 := by decide +kernel
theorem dksX0_mean_1 : cX0_mean.data.toList.drop 24 = dktX0_mean_1 := dk_seg dksX0_mean_0 24 rfl rfl
theorem dksX0_mean_2 : cX0_mean.data.toList.drop 47 = dktX0_mean_2 := dk_seg dksX0_mean_1 23 rfl rfl
theorem dX0_mean_0 : decode cX0_mean 0 = .ok (.iload_n 1, 1) := dk_27 (dk_at dksX0_mean_0 0 rfl rfl)
theorem dX0_mean_1 : decode cX0_mean 1 = .ok (.i2l, 1) := dk_133 (dk_at dksX0_mean_0 1 rfl rfl)
theorem dX0_mean_2 : decode cX0_mean 2 = .ok (.lconst 0, 1) := dk_9 (dk_at dksX0_mean_0 2 rfl rfl)
theorem dX0_mean_3 : decode cX0_mean 3 = .ok (.ldc2_w 268, 3) := dk_20 1 12 (dk_at dksX0_mean_0 3 rfl rfl)
theorem dX0_mean_6 : decode cX0_mean 6 = .ok (.invokestatic 144, 3) := dk_184 0 144 (dk_at dksX0_mean_0 6 rfl rfl)
theorem dX0_mean_9 : decode cX0_mean 9 = .ok (.ifCond .eq 22, 3) := dk_153 0 22 (dk_at dksX0_mean_0 9 rfl rfl)
theorem dX0_mean_12 : decode cX0_mean 12 = .ok (.iload_n 2, 1) := dk_28 (dk_at dksX0_mean_0 12 rfl rfl)
theorem dX0_mean_13 : decode cX0_mean 13 = .ok (.i2l, 1) := dk_133 (dk_at dksX0_mean_0 13 rfl rfl)
theorem dX0_mean_14 : decode cX0_mean 14 = .ok (.lconst 0, 1) := dk_9 (dk_at dksX0_mean_0 14 rfl rfl)
theorem dX0_mean_15 : decode cX0_mean 15 = .ok (.ldc2_w 294, 3) := dk_20 1 38 (dk_at dksX0_mean_0 15 rfl rfl)
theorem dX0_mean_18 : decode cX0_mean 18 = .ok (.invokestatic 144, 3) := dk_184 0 144 (dk_at dksX0_mean_0 18 rfl rfl)
theorem dX0_mean_21 : decode cX0_mean 21 = .ok (.ifCond .eq 10, 3) := dk_153 0 10 (dk_at dksX0_mean_0 21 rfl rfl)
theorem dX0_mean_24 : decode cX0_mean 24 = .ok (.iload_n 3, 1) := dk_29 (dk_at dksX0_mean_1 0 rfl rfl)
theorem dX0_mean_25 : decode cX0_mean 25 = .ok (.invokestatic 196, 3) := dk_184 0 196 (dk_at dksX0_mean_1 1 rfl rfl)
theorem dX0_mean_28 : decode cX0_mean 28 = .ok (.ifCond .ne 7, 3) := dk_154 0 7 (dk_at dksX0_mean_1 4 rfl rfl)
theorem dX0_mean_31 : decode cX0_mean 31 = .ok (.ldc2_w 296, 3) := dk_20 1 40 (dk_at dksX0_mean_1 7 rfl rfl)
theorem dX0_mean_34 : decode cX0_mean 34 = .ok (.lreturn, 1) := dk_173 (dk_at dksX0_mean_1 10 rfl rfl)
theorem dX0_mean_35 : decode cX0_mean 35 = .ok (.aload_n 0, 1) := dk_42 (dk_at dksX0_mean_1 11 rfl rfl)
theorem dX0_mean_36 : decode cX0_mean 36 = .ok (.iload_n 1, 1) := dk_27 (dk_at dksX0_mean_1 12 rfl rfl)
theorem dX0_mean_37 : decode cX0_mean 37 = .ok (.iconst 0, 1) := dk_3 (dk_at dksX0_mean_1 13 rfl rfl)
theorem dX0_mean_38 : decode cX0_mean 38 = .ok (.iload_n 2, 1) := dk_28 (dk_at dksX0_mean_1 14 rfl rfl)
theorem dX0_mean_39 : decode cX0_mean 39 = .ok (.invokevirtual 298, 3) := dk_182 1 42 (dk_at dksX0_mean_1 15 rfl rfl)
theorem dX0_mean_42 : decode cX0_mean 42 = .ok (.aload_n 0, 1) := dk_42 (dk_at dksX0_mean_1 18 rfl rfl)
theorem dX0_mean_43 : decode cX0_mean 43 = .ok (.getfield 288, 3) := dk_180 1 32 (dk_at dksX0_mean_1 19 rfl rfl)
theorem dX0_mean_46 : decode cX0_mean 46 = .ok (.aload_n 0, 1) := dk_42 (dk_at dksX0_mean_1 22 rfl rfl)
theorem dX0_mean_47 : decode cX0_mean 47 = .ok (.getfield 291, 3) := dk_180 1 35 (dk_at dksX0_mean_2 0 rfl rfl)
theorem dX0_mean_50 : decode cX0_mean 50 = .ok (.iload_n 3, 1) := dk_29 (dk_at dksX0_mean_2 3 rfl rfl)
theorem dX0_mean_51 : decode cX0_mean 51 = .ok (.invokestatic 301, 3) := dk_184 1 45 (dk_at dksX0_mean_2 4 rfl rfl)
theorem dX0_mean_54 : decode cX0_mean 54 = .ok (.lreturn, 1) := dk_173 (dk_at dksX0_mean_2 7 rfl rfl)
abbrev cX0_see : ByteArray := prog_1_method_52_code
def yX0_see : MethodName := ⟨RX0, "see", "(II)I"⟩
def dkwX0_see_3 : List UInt8 := [180, 0, 168, 4, 96, 181, 0, 168, 42, 180, 0, 168, 172]
abbrev dktX0_see_3 : List UInt8 := dkwX0_see_3 ++ []
def dkwX0_see_2 : List UInt8 := [180, 0, 168, 104, 27, 145, 84, 42, 180, 0, 116, 5, 42, 180, 0, 168, 104, 4, 96, 28, 145, 84, 42, 89]
abbrev dktX0_see_2 : List UInt8 := dkwX0_see_2 ++ dktX0_see_3
def dkwX0_see_1 : List UInt8 := [159, 0, 5, 2, 172, 42, 180, 0, 168, 16, 6, 160, 0, 6, 16, 253, 172, 42, 180, 0, 116, 5, 42]
abbrev dktX0_see_1 : List UInt8 := dkwX0_see_1 ++ dktX0_see_2
def dkwX0_see_0 : List UInt8 := [27, 133, 9, 20, 0, 209, 184, 0, 144, 153, 0, 17, 42, 28, 182, 0, 185, 154, 0, 11, 28, 16, 9]
abbrev dktX0_see_0 : List UInt8 := dkwX0_see_0 ++ dktX0_see_1
theorem dksX0_see_0 : cX0_see.data.toList.drop 0 = dktX0_see_0 := by decide +kernel
theorem dksX0_see_1 : cX0_see.data.toList.drop 23 = dktX0_see_1 := dk_seg dksX0_see_0 23 rfl rfl
theorem dksX0_see_2 : cX0_see.data.toList.drop 46 = dktX0_see_2 := dk_seg dksX0_see_1 23 rfl rfl
theorem dksX0_see_3 : cX0_see.data.toList.drop 70 = dktX0_see_3 := dk_seg dksX0_see_2 24 rfl rfl
theorem dX0_see_0 : decode cX0_see 0 = .ok (.iload_n 1, 1) := dk_27 (dk_at dksX0_see_0 0 rfl rfl)
theorem dX0_see_1 : decode cX0_see 1 = .ok (.i2l, 1) := dk_133 (dk_at dksX0_see_0 1 rfl rfl)
theorem dX0_see_2 : decode cX0_see 2 = .ok (.lconst 0, 1) := dk_9 (dk_at dksX0_see_0 2 rfl rfl)
theorem dX0_see_3 : decode cX0_see 3 = .ok (.ldc2_w 209, 3) := dk_20 0 209 (dk_at dksX0_see_0 3 rfl rfl)
theorem dX0_see_6 : decode cX0_see 6 = .ok (.invokestatic 144, 3) := dk_184 0 144 (dk_at dksX0_see_0 6 rfl rfl)
theorem dX0_see_9 : decode cX0_see 9 = .ok (.ifCond .eq 17, 3) := dk_153 0 17 (dk_at dksX0_see_0 9 rfl rfl)
theorem dX0_see_12 : decode cX0_see 12 = .ok (.aload_n 0, 1) := dk_42 (dk_at dksX0_see_0 12 rfl rfl)
theorem dX0_see_13 : decode cX0_see 13 = .ok (.iload_n 2, 1) := dk_28 (dk_at dksX0_see_0 13 rfl rfl)
theorem dX0_see_14 : decode cX0_see 14 = .ok (.invokevirtual 185, 3) := dk_182 0 185 (dk_at dksX0_see_0 14 rfl rfl)
theorem dX0_see_17 : decode cX0_see 17 = .ok (.ifCond .ne 11, 3) := dk_154 0 11 (dk_at dksX0_see_0 17 rfl rfl)
theorem dX0_see_20 : decode cX0_see 20 = .ok (.iload_n 2, 1) := dk_28 (dk_at dksX0_see_0 20 rfl rfl)
theorem dX0_see_21 : decode cX0_see 21 = .ok (.bipush 9, 2) := dk_16 9 (dk_at dksX0_see_0 21 rfl rfl)
theorem dX0_see_23 : decode cX0_see 23 = .ok (.if_icmp .eq 5, 3) := dk_159 0 5 (dk_at dksX0_see_1 0 rfl rfl)
theorem dX0_see_26 : decode cX0_see 26 = .ok (.iconst (-1), 1) := dk_2 (dk_at dksX0_see_1 3 rfl rfl)
theorem dX0_see_27 : decode cX0_see 27 = .ok (.ireturn, 1) := dk_172 (dk_at dksX0_see_1 4 rfl rfl)
theorem dX0_see_28 : decode cX0_see 28 = .ok (.aload_n 0, 1) := dk_42 (dk_at dksX0_see_1 5 rfl rfl)
theorem dX0_see_29 : decode cX0_see 29 = .ok (.getfield 168, 3) := dk_180 0 168 (dk_at dksX0_see_1 6 rfl rfl)
theorem dX0_see_32 : decode cX0_see 32 = .ok (.bipush 6, 2) := dk_16 6 (dk_at dksX0_see_1 9 rfl rfl)
theorem dX0_see_34 : decode cX0_see 34 = .ok (.if_icmp .ne 6, 3) := dk_160 0 6 (dk_at dksX0_see_1 11 rfl rfl)
theorem dX0_see_37 : decode cX0_see 37 = .ok (.bipush (-3), 2) := dk_16 253 (dk_at dksX0_see_1 14 rfl rfl)
theorem dX0_see_39 : decode cX0_see 39 = .ok (.ireturn, 1) := dk_172 (dk_at dksX0_see_1 16 rfl rfl)
theorem dX0_see_40 : decode cX0_see 40 = .ok (.aload_n 0, 1) := dk_42 (dk_at dksX0_see_1 17 rfl rfl)
theorem dX0_see_41 : decode cX0_see 41 = .ok (.getfield 116, 3) := dk_180 0 116 (dk_at dksX0_see_1 18 rfl rfl)
theorem dX0_see_44 : decode cX0_see 44 = .ok (.iconst 2, 1) := dk_5 (dk_at dksX0_see_1 21 rfl rfl)
theorem dX0_see_45 : decode cX0_see 45 = .ok (.aload_n 0, 1) := dk_42 (dk_at dksX0_see_1 22 rfl rfl)
theorem dX0_see_46 : decode cX0_see 46 = .ok (.getfield 168, 3) := dk_180 0 168 (dk_at dksX0_see_2 0 rfl rfl)
theorem dX0_see_49 : decode cX0_see 49 = .ok (.imul, 1) := dk_104 (dk_at dksX0_see_2 3 rfl rfl)
theorem dX0_see_50 : decode cX0_see 50 = .ok (.iload_n 1, 1) := dk_27 (dk_at dksX0_see_2 4 rfl rfl)
theorem dX0_see_51 : decode cX0_see 51 = .ok (.i2b, 1) := dk_145 (dk_at dksX0_see_2 5 rfl rfl)
theorem dX0_see_52 : decode cX0_see 52 = .ok (.bastore, 1) := dk_84 (dk_at dksX0_see_2 6 rfl rfl)
theorem dX0_see_53 : decode cX0_see 53 = .ok (.aload_n 0, 1) := dk_42 (dk_at dksX0_see_2 7 rfl rfl)
theorem dX0_see_54 : decode cX0_see 54 = .ok (.getfield 116, 3) := dk_180 0 116 (dk_at dksX0_see_2 8 rfl rfl)
theorem dX0_see_57 : decode cX0_see 57 = .ok (.iconst 2, 1) := dk_5 (dk_at dksX0_see_2 11 rfl rfl)
theorem dX0_see_58 : decode cX0_see 58 = .ok (.aload_n 0, 1) := dk_42 (dk_at dksX0_see_2 12 rfl rfl)
theorem dX0_see_59 : decode cX0_see 59 = .ok (.getfield 168, 3) := dk_180 0 168 (dk_at dksX0_see_2 13 rfl rfl)
theorem dX0_see_62 : decode cX0_see 62 = .ok (.imul, 1) := dk_104 (dk_at dksX0_see_2 16 rfl rfl)
theorem dX0_see_63 : decode cX0_see 63 = .ok (.iconst 1, 1) := dk_4 (dk_at dksX0_see_2 17 rfl rfl)
theorem dX0_see_64 : decode cX0_see 64 = .ok (.iadd, 1) := dk_96 (dk_at dksX0_see_2 18 rfl rfl)
theorem dX0_see_65 : decode cX0_see 65 = .ok (.iload_n 2, 1) := dk_28 (dk_at dksX0_see_2 19 rfl rfl)
theorem dX0_see_66 : decode cX0_see 66 = .ok (.i2b, 1) := dk_145 (dk_at dksX0_see_2 20 rfl rfl)
theorem dX0_see_67 : decode cX0_see 67 = .ok (.bastore, 1) := dk_84 (dk_at dksX0_see_2 21 rfl rfl)
theorem dX0_see_68 : decode cX0_see 68 = .ok (.aload_n 0, 1) := dk_42 (dk_at dksX0_see_2 22 rfl rfl)
theorem dX0_see_69 : decode cX0_see 69 = .ok (.dup, 1) := dk_89 (dk_at dksX0_see_2 23 rfl rfl)
theorem dX0_see_70 : decode cX0_see 70 = .ok (.getfield 168, 3) := dk_180 0 168 (dk_at dksX0_see_3 0 rfl rfl)
theorem dX0_see_73 : decode cX0_see 73 = .ok (.iconst 1, 1) := dk_4 (dk_at dksX0_see_3 3 rfl rfl)
theorem dX0_see_74 : decode cX0_see 74 = .ok (.iadd, 1) := dk_96 (dk_at dksX0_see_3 4 rfl rfl)
theorem dX0_see_75 : decode cX0_see 75 = .ok (.putfield 168, 3) := dk_181 0 168 (dk_at dksX0_see_3 5 rfl rfl)
theorem dX0_see_78 : decode cX0_see 78 = .ok (.aload_n 0, 1) := dk_42 (dk_at dksX0_see_3 8 rfl rfl)
theorem dX0_see_79 : decode cX0_see 79 = .ok (.getfield 168, 3) := dk_180 0 168 (dk_at dksX0_see_3 9 rfl rfl)
theorem dX0_see_82 : decode cX0_see 82 = .ok (.ireturn, 1) := dk_172 (dk_at dksX0_see_3 12 rfl rfl)
abbrev cX0_forget : ByteArray := prog_1_method_53_code
def yX0_forget : MethodName := ⟨RX0, "forget", "(I)I"⟩
def dkwX0_forget_1 : List UInt8 := [181, 0, 168, 28, 172]
abbrev dktX0_forget_1 : List UInt8 := dkwX0_forget_1 ++ []
def dkwX0_forget_0 : List UInt8 := [27, 133, 9, 42, 180, 0, 168, 133, 184, 0, 144, 154, 0, 5, 2, 172, 42, 180, 0, 168, 61, 42, 27]
abbrev dktX0_forget_0 : List UInt8 := dkwX0_forget_0 ++ dktX0_forget_1
theorem dksX0_forget_0 : cX0_forget.data.toList.drop 0 = dktX0_forget_0 := by decide +kernel
theorem dksX0_forget_1 : cX0_forget.data.toList.drop 23 = dktX0_forget_1 := dk_seg dksX0_forget_0 23 rfl rfl
theorem dX0_forget_0 : decode cX0_forget 0 = .ok (.iload_n 1, 1) := dk_27 (dk_at dksX0_forget_0 0 rfl rfl)
theorem dX0_forget_1 : decode cX0_forget 1 = .ok (.i2l, 1) := dk_133 (dk_at dksX0_forget_0 1 rfl rfl)
theorem dX0_forget_2 : decode cX0_forget 2 = .ok (.lconst 0, 1) := dk_9 (dk_at dksX0_forget_0 2 rfl rfl)
theorem dX0_forget_3 : decode cX0_forget 3 = .ok (.aload_n 0, 1) := dk_42 (dk_at dksX0_forget_0 3 rfl rfl)
theorem dX0_forget_4 : decode cX0_forget 4 = .ok (.getfield 168, 3) := dk_180 0 168 (dk_at dksX0_forget_0 4 rfl rfl)
theorem dX0_forget_7 : decode cX0_forget 7 = .ok (.i2l, 1) := dk_133 (dk_at dksX0_forget_0 7 rfl rfl)
theorem dX0_forget_8 : decode cX0_forget 8 = .ok (.invokestatic 144, 3) := dk_184 0 144 (dk_at dksX0_forget_0 8 rfl rfl)
theorem dX0_forget_11 : decode cX0_forget 11 = .ok (.ifCond .ne 5, 3) := dk_154 0 5 (dk_at dksX0_forget_0 11 rfl rfl)
theorem dX0_forget_14 : decode cX0_forget 14 = .ok (.iconst (-1), 1) := dk_2 (dk_at dksX0_forget_0 14 rfl rfl)
theorem dX0_forget_15 : decode cX0_forget 15 = .ok (.ireturn, 1) := dk_172 (dk_at dksX0_forget_0 15 rfl rfl)
theorem dX0_forget_16 : decode cX0_forget 16 = .ok (.aload_n 0, 1) := dk_42 (dk_at dksX0_forget_0 16 rfl rfl)
theorem dX0_forget_17 : decode cX0_forget 17 = .ok (.getfield 168, 3) := dk_180 0 168 (dk_at dksX0_forget_0 17 rfl rfl)
theorem dX0_forget_20 : decode cX0_forget 20 = .ok (.istore_n 2, 1) := dk_61 (dk_at dksX0_forget_0 20 rfl rfl)
theorem dX0_forget_21 : decode cX0_forget 21 = .ok (.aload_n 0, 1) := dk_42 (dk_at dksX0_forget_0 21 rfl rfl)
theorem dX0_forget_22 : decode cX0_forget 22 = .ok (.iload_n 1, 1) := dk_27 (dk_at dksX0_forget_0 22 rfl rfl)
theorem dX0_forget_23 : decode cX0_forget 23 = .ok (.putfield 168, 3) := dk_181 0 168 (dk_at dksX0_forget_1 0 rfl rfl)
theorem dX0_forget_26 : decode cX0_forget 26 = .ok (.iload_n 2, 1) := dk_28 (dk_at dksX0_forget_1 3 rfl rfl)
theorem dX0_forget_27 : decode cX0_forget 27 = .ok (.ireturn, 1) := dk_172 (dk_at dksX0_forget_1 4 rfl rfl)
abbrev cX0_kinds : ByteArray := prog_1_method_56_code
def yX0_kinds : MethodName := ⟨RX0, "kinds", "(I)I"⟩
def dkwX0_kinds_0 : List UInt8 := [42, 27, 182, 0, 185, 153, 0, 13, 42, 27, 3, 6, 182, 1, 53, 167, 0, 4, 2, 172]
abbrev dktX0_kinds_0 : List UInt8 := dkwX0_kinds_0 ++ []
theorem dksX0_kinds_0 : cX0_kinds.data.toList.drop 0 = dktX0_kinds_0 := by decide +kernel
theorem dX0_kinds_0 : decode cX0_kinds 0 = .ok (.aload_n 0, 1) := dk_42 (dk_at dksX0_kinds_0 0 rfl rfl)
theorem dX0_kinds_1 : decode cX0_kinds 1 = .ok (.iload_n 1, 1) := dk_27 (dk_at dksX0_kinds_0 1 rfl rfl)
theorem dX0_kinds_2 : decode cX0_kinds 2 = .ok (.invokevirtual 185, 3) := dk_182 0 185 (dk_at dksX0_kinds_0 2 rfl rfl)
theorem dX0_kinds_5 : decode cX0_kinds 5 = .ok (.ifCond .eq 13, 3) := dk_153 0 13 (dk_at dksX0_kinds_0 5 rfl rfl)
theorem dX0_kinds_8 : decode cX0_kinds 8 = .ok (.aload_n 0, 1) := dk_42 (dk_at dksX0_kinds_0 8 rfl rfl)
theorem dX0_kinds_9 : decode cX0_kinds 9 = .ok (.iload_n 1, 1) := dk_27 (dk_at dksX0_kinds_0 9 rfl rfl)
theorem dX0_kinds_10 : decode cX0_kinds 10 = .ok (.iconst 0, 1) := dk_3 (dk_at dksX0_kinds_0 10 rfl rfl)
theorem dX0_kinds_11 : decode cX0_kinds 11 = .ok (.iconst 3, 1) := dk_6 (dk_at dksX0_kinds_0 11 rfl rfl)
theorem dX0_kinds_12 : decode cX0_kinds 12 = .ok (.invokevirtual 309, 3) := dk_182 1 53 (dk_at dksX0_kinds_0 12 rfl rfl)
theorem dX0_kinds_15 : decode cX0_kinds 15 = .ok (.goto 4, 3) := dk_167 0 4 (dk_at dksX0_kinds_0 15 rfl rfl)
theorem dX0_kinds_18 : decode cX0_kinds 18 = .ok (.iconst (-1), 1) := dk_2 (dk_at dksX0_kinds_0 18 rfl rfl)
theorem dX0_kinds_19 : decode cX0_kinds 19 = .ok (.ireturn, 1) := dk_172 (dk_at dksX0_kinds_0 19 rfl rfl)
abbrev cX0_which : ByteArray := prog_1_method_55_code
def yX0_which : MethodName := ⟨RX0, "which", "(III)I"⟩
def dkwX0_which_1 : List UInt8 := [153, 0, 10, 4, 21, 5, 120, 167, 0, 4, 3, 128, 54, 4, 132, 5, 1, 167, 255, 223, 21, 4, 172]
abbrev dktX0_which_1 : List UInt8 := dkwX0_which_1 ++ []
def dkwX0_which_0 : List UInt8 := [3, 54, 4, 3, 54, 5, 21, 5, 29, 163, 0, 33, 21, 4, 42, 27, 28, 21, 5, 182, 1, 49]
abbrev dktX0_which_0 : List UInt8 := dkwX0_which_0 ++ dktX0_which_1
theorem dksX0_which_0 : cX0_which.data.toList.drop 0 = dktX0_which_0 := by decide +kernel
theorem dksX0_which_1 : cX0_which.data.toList.drop 22 = dktX0_which_1 := dk_seg dksX0_which_0 22 rfl rfl
theorem dX0_which_0 : decode cX0_which 0 = .ok (.iconst 0, 1) := dk_3 (dk_at dksX0_which_0 0 rfl rfl)
theorem dX0_which_1 : decode cX0_which 1 = .ok (.istore 4, 2) := dk_54 4 (dk_at dksX0_which_0 1 rfl rfl)
theorem dX0_which_3 : decode cX0_which 3 = .ok (.iconst 0, 1) := dk_3 (dk_at dksX0_which_0 3 rfl rfl)
theorem dX0_which_4 : decode cX0_which 4 = .ok (.istore 5, 2) := dk_54 5 (dk_at dksX0_which_0 4 rfl rfl)
theorem dX0_which_6 : decode cX0_which 6 = .ok (.iload 5, 2) := dk_21 5 (dk_at dksX0_which_0 6 rfl rfl)
theorem dX0_which_8 : decode cX0_which 8 = .ok (.iload_n 3, 1) := dk_29 (dk_at dksX0_which_0 8 rfl rfl)
theorem dX0_which_9 : decode cX0_which 9 = .ok (.if_icmp .gt 33, 3) := dk_163 0 33 (dk_at dksX0_which_0 9 rfl rfl)
theorem dX0_which_12 : decode cX0_which 12 = .ok (.iload 4, 2) := dk_21 4 (dk_at dksX0_which_0 12 rfl rfl)
theorem dX0_which_14 : decode cX0_which 14 = .ok (.aload_n 0, 1) := dk_42 (dk_at dksX0_which_0 14 rfl rfl)
theorem dX0_which_15 : decode cX0_which 15 = .ok (.iload_n 1, 1) := dk_27 (dk_at dksX0_which_0 15 rfl rfl)
theorem dX0_which_16 : decode cX0_which 16 = .ok (.iload_n 2, 1) := dk_28 (dk_at dksX0_which_0 16 rfl rfl)
theorem dX0_which_17 : decode cX0_which 17 = .ok (.iload 5, 2) := dk_21 5 (dk_at dksX0_which_0 17 rfl rfl)
theorem dX0_which_19 : decode cX0_which 19 = .ok (.invokevirtual 305, 3) := dk_182 1 49 (dk_at dksX0_which_0 19 rfl rfl)
theorem dX0_which_22 : decode cX0_which 22 = .ok (.ifCond .eq 10, 3) := dk_153 0 10 (dk_at dksX0_which_1 0 rfl rfl)
theorem dX0_which_25 : decode cX0_which 25 = .ok (.iconst 1, 1) := dk_4 (dk_at dksX0_which_1 3 rfl rfl)
theorem dX0_which_26 : decode cX0_which 26 = .ok (.iload 5, 2) := dk_21 5 (dk_at dksX0_which_1 4 rfl rfl)
theorem dX0_which_28 : decode cX0_which 28 = .ok (.ishl, 1) := dk_120 (dk_at dksX0_which_1 6 rfl rfl)
theorem dX0_which_29 : decode cX0_which 29 = .ok (.goto 4, 3) := dk_167 0 4 (dk_at dksX0_which_1 7 rfl rfl)
theorem dX0_which_32 : decode cX0_which 32 = .ok (.iconst 0, 1) := dk_3 (dk_at dksX0_which_1 10 rfl rfl)
theorem dX0_which_33 : decode cX0_which 33 = .ok (.ior, 1) := dk_128 (dk_at dksX0_which_1 11 rfl rfl)
theorem dX0_which_34 : decode cX0_which 34 = .ok (.istore 4, 2) := dk_54 4 (dk_at dksX0_which_1 12 rfl rfl)
theorem dX0_which_36 : decode cX0_which 36 = .ok (.iinc 5 1, 3) := dk_132 5 1 (dk_at dksX0_which_1 14 rfl rfl)
theorem dX0_which_39 : decode cX0_which 39 = .ok (.goto (-33), 3) := dk_167 255 223 (dk_at dksX0_which_1 17 rfl rfl)
theorem dX0_which_42 : decode cX0_which 42 = .ok (.iload 4, 2) := dk_21 4 (dk_at dksX0_which_1 20 rfl rfl)
theorem dX0_which_44 : decode cX0_which 44 = .ok (.ireturn, 1) := dk_172 (dk_at dksX0_which_1 22 rfl rfl)
abbrev cX0_isSo : ByteArray := prog_1_method_54_code
def yX0_isSo : MethodName := ⟨RX0, "isSo", "(III)Z"⟩
def dkwX0_isSo_5 : List UInt8 := [4, 167, 0, 4, 3, 126, 54, 4, 132, 5, 1, 167, 255, 206, 21, 4, 172]
abbrev dktX0_isSo_5 : List UInt8 := dkwX0_isSo_5 ++ []
def dkwX0_isSo_4 : List UInt8 := [42, 180, 0, 116, 5, 21, 5, 104, 51, 51, 42, 180, 0, 116, 5, 21, 5, 104, 4, 96, 51, 160, 0, 7]
abbrev dktX0_isSo_4 : List UInt8 := dkwX0_isSo_4 ++ dktX0_isSo_5
def dkwX0_isSo_3 : List UInt8 := [167, 255, 211, 4, 54, 4, 3, 54, 5, 21, 5, 42, 180, 0, 168, 162, 0, 47, 21, 4, 42, 180, 0, 129]
abbrev dktX0_isSo_3 : List UInt8 := dkwX0_isSo_3 ++ dktX0_isSo_4
def dkwX0_isSo_2 : List UInt8 := [180, 0, 31, 16, 252, 160, 0, 8, 16, 9, 167, 0, 7, 42, 180, 0, 31, 145, 84, 132, 4, 1]
abbrev dktX0_isSo_2 : List UInt8 := dkwX0_isSo_2 ++ dktX0_isSo_3
def dkwX0_isSo_1 : List UInt8 := [21, 4, 16, 20, 163, 0, 44, 42, 42, 180, 0, 81, 3, 182, 0, 77, 42, 180, 0, 129, 21, 4, 42]
abbrev dktX0_isSo_1 : List UInt8 := dkwX0_isSo_1 ++ dktX0_isSo_2
def dkwX0_isSo_0 : List UInt8 := [42, 180, 0, 81, 42, 180, 0, 109, 182, 0, 165, 42, 180, 0, 81, 27, 28, 29, 182, 0, 205, 3, 54, 4]
abbrev dktX0_isSo_0 : List UInt8 := dkwX0_isSo_0 ++ dktX0_isSo_1
theorem dksX0_isSo_0 : cX0_isSo.data.toList.drop 0 = dktX0_isSo_0 := by decide +kernel
theorem dksX0_isSo_1 : cX0_isSo.data.toList.drop 24 = dktX0_isSo_1 := dk_seg dksX0_isSo_0 24 rfl rfl
theorem dksX0_isSo_2 : cX0_isSo.data.toList.drop 47 = dktX0_isSo_2 := dk_seg dksX0_isSo_1 23 rfl rfl
theorem dksX0_isSo_3 : cX0_isSo.data.toList.drop 69 = dktX0_isSo_3 := dk_seg dksX0_isSo_2 22 rfl rfl
theorem dksX0_isSo_4 : cX0_isSo.data.toList.drop 93 = dktX0_isSo_4 := dk_seg dksX0_isSo_3 24 rfl rfl
theorem dksX0_isSo_5 : cX0_isSo.data.toList.drop 117 = dktX0_isSo_5 := dk_seg dksX0_isSo_4 24 rfl rfl
theorem dX0_isSo_0 : decode cX0_isSo 0 = .ok (.aload_n 0, 1) := dk_42 (dk_at dksX0_isSo_0 0 rfl rfl)
theorem dX0_isSo_1 : decode cX0_isSo 1 = .ok (.getfield 81, 3) := dk_180 0 81 (dk_at dksX0_isSo_0 1 rfl rfl)
theorem dX0_isSo_4 : decode cX0_isSo 4 = .ok (.aload_n 0, 1) := dk_42 (dk_at dksX0_isSo_0 4 rfl rfl)
theorem dX0_isSo_5 : decode cX0_isSo 5 = .ok (.getfield 109, 3) := dk_180 0 109 (dk_at dksX0_isSo_0 5 rfl rfl)
theorem dX0_isSo_8 : decode cX0_isSo 8 = .ok (.invokevirtual 165, 3) := dk_182 0 165 (dk_at dksX0_isSo_0 8 rfl rfl)
theorem dX0_isSo_11 : decode cX0_isSo 11 = .ok (.aload_n 0, 1) := dk_42 (dk_at dksX0_isSo_0 11 rfl rfl)
theorem dX0_isSo_12 : decode cX0_isSo 12 = .ok (.getfield 81, 3) := dk_180 0 81 (dk_at dksX0_isSo_0 12 rfl rfl)
theorem dX0_isSo_15 : decode cX0_isSo 15 = .ok (.iload_n 1, 1) := dk_27 (dk_at dksX0_isSo_0 15 rfl rfl)
theorem dX0_isSo_16 : decode cX0_isSo 16 = .ok (.iload_n 2, 1) := dk_28 (dk_at dksX0_isSo_0 16 rfl rfl)
theorem dX0_isSo_17 : decode cX0_isSo 17 = .ok (.iload_n 3, 1) := dk_29 (dk_at dksX0_isSo_0 17 rfl rfl)
theorem dX0_isSo_18 : decode cX0_isSo 18 = .ok (.invokevirtual 205, 3) := dk_182 0 205 (dk_at dksX0_isSo_0 18 rfl rfl)
theorem dX0_isSo_21 : decode cX0_isSo 21 = .ok (.iconst 0, 1) := dk_3 (dk_at dksX0_isSo_0 21 rfl rfl)
theorem dX0_isSo_22 : decode cX0_isSo 22 = .ok (.istore 4, 2) := dk_54 4 (dk_at dksX0_isSo_0 22 rfl rfl)
theorem dX0_isSo_24 : decode cX0_isSo 24 = .ok (.iload 4, 2) := dk_21 4 (dk_at dksX0_isSo_1 0 rfl rfl)
theorem dX0_isSo_26 : decode cX0_isSo 26 = .ok (.bipush 20, 2) := dk_16 20 (dk_at dksX0_isSo_1 2 rfl rfl)
theorem dX0_isSo_28 : decode cX0_isSo 28 = .ok (.if_icmp .gt 44, 3) := dk_163 0 44 (dk_at dksX0_isSo_1 4 rfl rfl)
theorem dX0_isSo_31 : decode cX0_isSo 31 = .ok (.aload_n 0, 1) := dk_42 (dk_at dksX0_isSo_1 7 rfl rfl)
theorem dX0_isSo_32 : decode cX0_isSo 32 = .ok (.aload_n 0, 1) := dk_42 (dk_at dksX0_isSo_1 8 rfl rfl)
theorem dX0_isSo_33 : decode cX0_isSo 33 = .ok (.getfield 81, 3) := dk_180 0 81 (dk_at dksX0_isSo_1 9 rfl rfl)
theorem dX0_isSo_36 : decode cX0_isSo 36 = .ok (.iconst 0, 1) := dk_3 (dk_at dksX0_isSo_1 12 rfl rfl)
theorem dX0_isSo_37 : decode cX0_isSo 37 = .ok (.invokevirtual 77, 3) := dk_182 0 77 (dk_at dksX0_isSo_1 13 rfl rfl)
theorem dX0_isSo_40 : decode cX0_isSo 40 = .ok (.aload_n 0, 1) := dk_42 (dk_at dksX0_isSo_1 16 rfl rfl)
theorem dX0_isSo_41 : decode cX0_isSo 41 = .ok (.getfield 129, 3) := dk_180 0 129 (dk_at dksX0_isSo_1 17 rfl rfl)
theorem dX0_isSo_44 : decode cX0_isSo 44 = .ok (.iload 4, 2) := dk_21 4 (dk_at dksX0_isSo_1 20 rfl rfl)
theorem dX0_isSo_46 : decode cX0_isSo 46 = .ok (.aload_n 0, 1) := dk_42 (dk_at dksX0_isSo_1 22 rfl rfl)
theorem dX0_isSo_47 : decode cX0_isSo 47 = .ok (.getfield 31, 3) := dk_180 0 31 (dk_at dksX0_isSo_2 0 rfl rfl)
theorem dX0_isSo_50 : decode cX0_isSo 50 = .ok (.bipush (-4), 2) := dk_16 252 (dk_at dksX0_isSo_2 3 rfl rfl)
theorem dX0_isSo_52 : decode cX0_isSo 52 = .ok (.if_icmp .ne 8, 3) := dk_160 0 8 (dk_at dksX0_isSo_2 5 rfl rfl)
theorem dX0_isSo_55 : decode cX0_isSo 55 = .ok (.bipush 9, 2) := dk_16 9 (dk_at dksX0_isSo_2 8 rfl rfl)
theorem dX0_isSo_57 : decode cX0_isSo 57 = .ok (.goto 7, 3) := dk_167 0 7 (dk_at dksX0_isSo_2 10 rfl rfl)
theorem dX0_isSo_60 : decode cX0_isSo 60 = .ok (.aload_n 0, 1) := dk_42 (dk_at dksX0_isSo_2 13 rfl rfl)
theorem dX0_isSo_61 : decode cX0_isSo 61 = .ok (.getfield 31, 3) := dk_180 0 31 (dk_at dksX0_isSo_2 14 rfl rfl)
theorem dX0_isSo_64 : decode cX0_isSo 64 = .ok (.i2b, 1) := dk_145 (dk_at dksX0_isSo_2 17 rfl rfl)
theorem dX0_isSo_65 : decode cX0_isSo 65 = .ok (.bastore, 1) := dk_84 (dk_at dksX0_isSo_2 18 rfl rfl)
theorem dX0_isSo_66 : decode cX0_isSo 66 = .ok (.iinc 4 1, 3) := dk_132 4 1 (dk_at dksX0_isSo_2 19 rfl rfl)
theorem dX0_isSo_69 : decode cX0_isSo 69 = .ok (.goto (-45), 3) := dk_167 255 211 (dk_at dksX0_isSo_3 0 rfl rfl)
theorem dX0_isSo_72 : decode cX0_isSo 72 = .ok (.iconst 1, 1) := dk_4 (dk_at dksX0_isSo_3 3 rfl rfl)
theorem dX0_isSo_73 : decode cX0_isSo 73 = .ok (.istore 4, 2) := dk_54 4 (dk_at dksX0_isSo_3 4 rfl rfl)
theorem dX0_isSo_75 : decode cX0_isSo 75 = .ok (.iconst 0, 1) := dk_3 (dk_at dksX0_isSo_3 6 rfl rfl)
theorem dX0_isSo_76 : decode cX0_isSo 76 = .ok (.istore 5, 2) := dk_54 5 (dk_at dksX0_isSo_3 7 rfl rfl)
theorem dX0_isSo_78 : decode cX0_isSo 78 = .ok (.iload 5, 2) := dk_21 5 (dk_at dksX0_isSo_3 9 rfl rfl)
theorem dX0_isSo_80 : decode cX0_isSo 80 = .ok (.aload_n 0, 1) := dk_42 (dk_at dksX0_isSo_3 11 rfl rfl)
theorem dX0_isSo_81 : decode cX0_isSo 81 = .ok (.getfield 168, 3) := dk_180 0 168 (dk_at dksX0_isSo_3 12 rfl rfl)
theorem dX0_isSo_84 : decode cX0_isSo 84 = .ok (.if_icmp .ge 47, 3) := dk_162 0 47 (dk_at dksX0_isSo_3 15 rfl rfl)
theorem dX0_isSo_87 : decode cX0_isSo 87 = .ok (.iload 4, 2) := dk_21 4 (dk_at dksX0_isSo_3 18 rfl rfl)
theorem dX0_isSo_89 : decode cX0_isSo 89 = .ok (.aload_n 0, 1) := dk_42 (dk_at dksX0_isSo_3 20 rfl rfl)
theorem dX0_isSo_90 : decode cX0_isSo 90 = .ok (.getfield 129, 3) := dk_180 0 129 (dk_at dksX0_isSo_3 21 rfl rfl)
theorem dX0_isSo_93 : decode cX0_isSo 93 = .ok (.aload_n 0, 1) := dk_42 (dk_at dksX0_isSo_4 0 rfl rfl)
theorem dX0_isSo_94 : decode cX0_isSo 94 = .ok (.getfield 116, 3) := dk_180 0 116 (dk_at dksX0_isSo_4 1 rfl rfl)
theorem dX0_isSo_97 : decode cX0_isSo 97 = .ok (.iconst 2, 1) := dk_5 (dk_at dksX0_isSo_4 4 rfl rfl)
theorem dX0_isSo_98 : decode cX0_isSo 98 = .ok (.iload 5, 2) := dk_21 5 (dk_at dksX0_isSo_4 5 rfl rfl)
theorem dX0_isSo_100 : decode cX0_isSo 100 = .ok (.imul, 1) := dk_104 (dk_at dksX0_isSo_4 7 rfl rfl)
theorem dX0_isSo_101 : decode cX0_isSo 101 = .ok (.baload, 1) := dk_51 (dk_at dksX0_isSo_4 8 rfl rfl)
theorem dX0_isSo_102 : decode cX0_isSo 102 = .ok (.baload, 1) := dk_51 (dk_at dksX0_isSo_4 9 rfl rfl)
theorem dX0_isSo_103 : decode cX0_isSo 103 = .ok (.aload_n 0, 1) := dk_42 (dk_at dksX0_isSo_4 10 rfl rfl)
theorem dX0_isSo_104 : decode cX0_isSo 104 = .ok (.getfield 116, 3) := dk_180 0 116 (dk_at dksX0_isSo_4 11 rfl rfl)
theorem dX0_isSo_107 : decode cX0_isSo 107 = .ok (.iconst 2, 1) := dk_5 (dk_at dksX0_isSo_4 14 rfl rfl)
theorem dX0_isSo_108 : decode cX0_isSo 108 = .ok (.iload 5, 2) := dk_21 5 (dk_at dksX0_isSo_4 15 rfl rfl)
theorem dX0_isSo_110 : decode cX0_isSo 110 = .ok (.imul, 1) := dk_104 (dk_at dksX0_isSo_4 17 rfl rfl)
theorem dX0_isSo_111 : decode cX0_isSo 111 = .ok (.iconst 1, 1) := dk_4 (dk_at dksX0_isSo_4 18 rfl rfl)
theorem dX0_isSo_112 : decode cX0_isSo 112 = .ok (.iadd, 1) := dk_96 (dk_at dksX0_isSo_4 19 rfl rfl)
theorem dX0_isSo_113 : decode cX0_isSo 113 = .ok (.baload, 1) := dk_51 (dk_at dksX0_isSo_4 20 rfl rfl)
theorem dX0_isSo_114 : decode cX0_isSo 114 = .ok (.if_icmp .ne 7, 3) := dk_160 0 7 (dk_at dksX0_isSo_4 21 rfl rfl)
theorem dX0_isSo_117 : decode cX0_isSo 117 = .ok (.iconst 1, 1) := dk_4 (dk_at dksX0_isSo_5 0 rfl rfl)
theorem dX0_isSo_118 : decode cX0_isSo 118 = .ok (.goto 4, 3) := dk_167 0 4 (dk_at dksX0_isSo_5 1 rfl rfl)
theorem dX0_isSo_121 : decode cX0_isSo 121 = .ok (.iconst 0, 1) := dk_3 (dk_at dksX0_isSo_5 4 rfl rfl)
theorem dX0_isSo_122 : decode cX0_isSo 122 = .ok (.iand, 1) := dk_126 (dk_at dksX0_isSo_5 5 rfl rfl)
theorem dX0_isSo_123 : decode cX0_isSo 123 = .ok (.istore 4, 2) := dk_54 4 (dk_at dksX0_isSo_5 6 rfl rfl)
theorem dX0_isSo_125 : decode cX0_isSo 125 = .ok (.iinc 5 1, 3) := dk_132 5 1 (dk_at dksX0_isSo_5 8 rfl rfl)
theorem dX0_isSo_128 : decode cX0_isSo 128 = .ok (.goto (-50), 3) := dk_167 255 206 (dk_at dksX0_isSo_5 11 rfl rfl)
theorem dX0_isSo_131 : decode cX0_isSo 131 = .ok (.iload 4, 2) := dk_21 4 (dk_at dksX0_isSo_5 14 rfl rfl)
theorem dX0_isSo_133 : decode cX0_isSo 133 = .ok (.ireturn, 1) := dk_172 (dk_at dksX0_isSo_5 16 rfl rfl)
abbrev cX0_strengths : ByteArray := prog_1_method_57_code
def yX0_strengths : MethodName := ⟨RX0, "strengths", "(I)I"⟩
def dkwX0_strengths_0 : List UInt8 := [42, 27, 182, 0, 185, 153, 0, 14, 42, 27, 4, 16, 20, 182, 1, 53, 167, 0, 4, 2, 172]
abbrev dktX0_strengths_0 : List UInt8 := dkwX0_strengths_0 ++ []
theorem dksX0_strengths_0 : cX0_strengths.data.toList.drop 0 = dktX0_strengths_0 := by decide +kernel
theorem dX0_strengths_0 : decode cX0_strengths 0 = .ok (.aload_n 0, 1) := dk_42 (dk_at dksX0_strengths_0 0 rfl rfl)
theorem dX0_strengths_1 : decode cX0_strengths 1 = .ok (.iload_n 1, 1) := dk_27 (dk_at dksX0_strengths_0 1 rfl rfl)
theorem dX0_strengths_2 : decode cX0_strengths 2 = .ok (.invokevirtual 185, 3) := dk_182 0 185 (dk_at dksX0_strengths_0 2 rfl rfl)
theorem dX0_strengths_5 : decode cX0_strengths 5 = .ok (.ifCond .eq 14, 3) := dk_153 0 14 (dk_at dksX0_strengths_0 5 rfl rfl)
theorem dX0_strengths_8 : decode cX0_strengths 8 = .ok (.aload_n 0, 1) := dk_42 (dk_at dksX0_strengths_0 8 rfl rfl)
theorem dX0_strengths_9 : decode cX0_strengths 9 = .ok (.iload_n 1, 1) := dk_27 (dk_at dksX0_strengths_0 9 rfl rfl)
theorem dX0_strengths_10 : decode cX0_strengths 10 = .ok (.iconst 1, 1) := dk_4 (dk_at dksX0_strengths_0 10 rfl rfl)
theorem dX0_strengths_11 : decode cX0_strengths 11 = .ok (.bipush 20, 2) := dk_16 20 (dk_at dksX0_strengths_0 11 rfl rfl)
theorem dX0_strengths_13 : decode cX0_strengths 13 = .ok (.invokevirtual 309, 3) := dk_182 1 53 (dk_at dksX0_strengths_0 13 rfl rfl)
theorem dX0_strengths_16 : decode cX0_strengths 16 = .ok (.goto 4, 3) := dk_167 0 4 (dk_at dksX0_strengths_0 16 rfl rfl)
theorem dX0_strengths_19 : decode cX0_strengths 19 = .ok (.iconst (-1), 1) := dk_2 (dk_at dksX0_strengths_0 19 rfl rfl)
theorem dX0_strengths_20 : decode cX0_strengths 20 = .ok (.ireturn, 1) := dk_172 (dk_at dksX0_strengths_0 20 rfl rfl)
abbrev cX0_ask : ByteArray := prog_1_method_60_code
def yX0_ask : MethodName := ⟨RX0, "ask", "(II)I"⟩
def dkwX0_ask_2 : List UInt8 := [182, 1, 0, 132, 4, 1, 167, 255, 233, 42, 28, 182, 1, 22, 172]
abbrev dktX0_ask_2 : List UInt8 := dkwX0_ask_2 ++ []
def dkwX0_ask_1 : List UInt8 := [29, 182, 0, 244, 3, 54, 4, 21, 4, 16, 20, 163, 0, 22, 42, 21, 4, 42, 21, 4, 29, 182, 1, 62]
abbrev dktX0_ask_1 : List UInt8 := dkwX0_ask_1 ++ dktX0_ask_2
def dkwX0_ask_0 : List UInt8 := [42, 27, 182, 0, 185, 153, 0, 10, 28, 184, 0, 196, 154, 0, 5, 2, 172, 42, 27, 182, 1, 59, 62, 42]
abbrev dktX0_ask_0 : List UInt8 := dkwX0_ask_0 ++ dktX0_ask_1
theorem dksX0_ask_0 : cX0_ask.data.toList.drop 0 = dktX0_ask_0 := by decide +kernel
theorem dksX0_ask_1 : cX0_ask.data.toList.drop 24 = dktX0_ask_1 := dk_seg dksX0_ask_0 24 rfl rfl
theorem dksX0_ask_2 : cX0_ask.data.toList.drop 48 = dktX0_ask_2 := dk_seg dksX0_ask_1 24 rfl rfl
theorem dX0_ask_0 : decode cX0_ask 0 = .ok (.aload_n 0, 1) := dk_42 (dk_at dksX0_ask_0 0 rfl rfl)
theorem dX0_ask_1 : decode cX0_ask 1 = .ok (.iload_n 1, 1) := dk_27 (dk_at dksX0_ask_0 1 rfl rfl)
theorem dX0_ask_2 : decode cX0_ask 2 = .ok (.invokevirtual 185, 3) := dk_182 0 185 (dk_at dksX0_ask_0 2 rfl rfl)
theorem dX0_ask_5 : decode cX0_ask 5 = .ok (.ifCond .eq 10, 3) := dk_153 0 10 (dk_at dksX0_ask_0 5 rfl rfl)
theorem dX0_ask_8 : decode cX0_ask 8 = .ok (.iload_n 2, 1) := dk_28 (dk_at dksX0_ask_0 8 rfl rfl)
theorem dX0_ask_9 : decode cX0_ask 9 = .ok (.invokestatic 196, 3) := dk_184 0 196 (dk_at dksX0_ask_0 9 rfl rfl)
theorem dX0_ask_12 : decode cX0_ask 12 = .ok (.ifCond .ne 5, 3) := dk_154 0 5 (dk_at dksX0_ask_0 12 rfl rfl)
theorem dX0_ask_15 : decode cX0_ask 15 = .ok (.iconst (-1), 1) := dk_2 (dk_at dksX0_ask_0 15 rfl rfl)
theorem dX0_ask_16 : decode cX0_ask 16 = .ok (.ireturn, 1) := dk_172 (dk_at dksX0_ask_0 16 rfl rfl)
theorem dX0_ask_17 : decode cX0_ask 17 = .ok (.aload_n 0, 1) := dk_42 (dk_at dksX0_ask_0 17 rfl rfl)
theorem dX0_ask_18 : decode cX0_ask 18 = .ok (.iload_n 1, 1) := dk_27 (dk_at dksX0_ask_0 18 rfl rfl)
theorem dX0_ask_19 : decode cX0_ask 19 = .ok (.invokevirtual 315, 3) := dk_182 1 59 (dk_at dksX0_ask_0 19 rfl rfl)
theorem dX0_ask_22 : decode cX0_ask 22 = .ok (.istore_n 3, 1) := dk_62 (dk_at dksX0_ask_0 22 rfl rfl)
theorem dX0_ask_23 : decode cX0_ask 23 = .ok (.aload_n 0, 1) := dk_42 (dk_at dksX0_ask_0 23 rfl rfl)
theorem dX0_ask_24 : decode cX0_ask 24 = .ok (.iload_n 3, 1) := dk_29 (dk_at dksX0_ask_1 0 rfl rfl)
theorem dX0_ask_25 : decode cX0_ask 25 = .ok (.invokevirtual 244, 3) := dk_182 0 244 (dk_at dksX0_ask_1 1 rfl rfl)
theorem dX0_ask_28 : decode cX0_ask 28 = .ok (.iconst 0, 1) := dk_3 (dk_at dksX0_ask_1 4 rfl rfl)
theorem dX0_ask_29 : decode cX0_ask 29 = .ok (.istore 4, 2) := dk_54 4 (dk_at dksX0_ask_1 5 rfl rfl)
theorem dX0_ask_31 : decode cX0_ask 31 = .ok (.iload 4, 2) := dk_21 4 (dk_at dksX0_ask_1 7 rfl rfl)
theorem dX0_ask_33 : decode cX0_ask 33 = .ok (.bipush 20, 2) := dk_16 20 (dk_at dksX0_ask_1 9 rfl rfl)
theorem dX0_ask_35 : decode cX0_ask 35 = .ok (.if_icmp .gt 22, 3) := dk_163 0 22 (dk_at dksX0_ask_1 11 rfl rfl)
theorem dX0_ask_38 : decode cX0_ask 38 = .ok (.aload_n 0, 1) := dk_42 (dk_at dksX0_ask_1 14 rfl rfl)
theorem dX0_ask_39 : decode cX0_ask 39 = .ok (.iload 4, 2) := dk_21 4 (dk_at dksX0_ask_1 15 rfl rfl)
theorem dX0_ask_41 : decode cX0_ask 41 = .ok (.aload_n 0, 1) := dk_42 (dk_at dksX0_ask_1 17 rfl rfl)
theorem dX0_ask_42 : decode cX0_ask 42 = .ok (.iload 4, 2) := dk_21 4 (dk_at dksX0_ask_1 18 rfl rfl)
theorem dX0_ask_44 : decode cX0_ask 44 = .ok (.iload_n 3, 1) := dk_29 (dk_at dksX0_ask_1 20 rfl rfl)
theorem dX0_ask_45 : decode cX0_ask 45 = .ok (.invokevirtual 318, 3) := dk_182 1 62 (dk_at dksX0_ask_1 21 rfl rfl)
theorem dX0_ask_48 : decode cX0_ask 48 = .ok (.invokevirtual 256, 3) := dk_182 1 0 (dk_at dksX0_ask_2 0 rfl rfl)
theorem dX0_ask_51 : decode cX0_ask 51 = .ok (.iinc 4 1, 3) := dk_132 4 1 (dk_at dksX0_ask_2 3 rfl rfl)
theorem dX0_ask_54 : decode cX0_ask 54 = .ok (.goto (-23), 3) := dk_167 255 233 (dk_at dksX0_ask_2 6 rfl rfl)
theorem dX0_ask_57 : decode cX0_ask 57 = .ok (.aload_n 0, 1) := dk_42 (dk_at dksX0_ask_2 9 rfl rfl)
theorem dX0_ask_58 : decode cX0_ask 58 = .ok (.iload_n 2, 1) := dk_28 (dk_at dksX0_ask_2 10 rfl rfl)
theorem dX0_ask_59 : decode cX0_ask 59 = .ok (.invokevirtual 278, 3) := dk_182 1 22 (dk_at dksX0_ask_2 11 rfl rfl)
theorem dX0_ask_62 : decode cX0_ask 62 = .ok (.ireturn, 1) := dk_172 (dk_at dksX0_ask_2 14 rfl rfl)
abbrev cX0_findStrengths : ByteArray := prog_1_method_58_code
def yX0_findStrengths : MethodName := ⟨RX0, "findStrengths", "(I)I"⟩
def dkwX0_findStrengths_2 : List UInt8 := [172]
abbrev dktX0_findStrengths_2 : List UInt8 := dkwX0_findStrengths_2 ++ []
def dkwX0_findStrengths_1 : List UInt8 := [3, 42, 180, 0, 132, 16, 21, 28, 104, 16, 21, 184, 1, 3, 132, 2, 1, 132, 3, 1, 167, 255, 216, 28]
abbrev dktX0_findStrengths_1 : List UInt8 := dkwX0_findStrengths_1 ++ dktX0_findStrengths_2
def dkwX0_findStrengths_0 : List UInt8 := [3, 61, 3, 62, 29, 16, 20, 163, 0, 40, 42, 27, 4, 29, 182, 1, 49, 153, 0, 24, 42, 180, 0, 129]
abbrev dktX0_findStrengths_0 : List UInt8 := dkwX0_findStrengths_0 ++ dktX0_findStrengths_1
theorem dksX0_findStrengths_0 : cX0_findStrengths.data.toList.drop 0 = dktX0_findStrengths_0 := by decide +kernel
theorem dksX0_findStrengths_1 : cX0_findStrengths.data.toList.drop 24 = dktX0_findStrengths_1 := dk_seg dksX0_findStrengths_0 24 rfl rfl
theorem dksX0_findStrengths_2 : cX0_findStrengths.data.toList.drop 48 = dktX0_findStrengths_2 := dk_seg dksX0_findStrengths_1 24 rfl rfl
theorem dX0_findStrengths_0 : decode cX0_findStrengths 0 = .ok (.iconst 0, 1) := dk_3 (dk_at dksX0_findStrengths_0 0 rfl rfl)
theorem dX0_findStrengths_1 : decode cX0_findStrengths 1 = .ok (.istore_n 2, 1) := dk_61 (dk_at dksX0_findStrengths_0 1 rfl rfl)
theorem dX0_findStrengths_2 : decode cX0_findStrengths 2 = .ok (.iconst 0, 1) := dk_3 (dk_at dksX0_findStrengths_0 2 rfl rfl)
theorem dX0_findStrengths_3 : decode cX0_findStrengths 3 = .ok (.istore_n 3, 1) := dk_62 (dk_at dksX0_findStrengths_0 3 rfl rfl)
theorem dX0_findStrengths_4 : decode cX0_findStrengths 4 = .ok (.iload_n 3, 1) := dk_29 (dk_at dksX0_findStrengths_0 4 rfl rfl)
theorem dX0_findStrengths_5 : decode cX0_findStrengths 5 = .ok (.bipush 20, 2) := dk_16 20 (dk_at dksX0_findStrengths_0 5 rfl rfl)
theorem dX0_findStrengths_7 : decode cX0_findStrengths 7 = .ok (.if_icmp .gt 40, 3) := dk_163 0 40 (dk_at dksX0_findStrengths_0 7 rfl rfl)
theorem dX0_findStrengths_10 : decode cX0_findStrengths 10 = .ok (.aload_n 0, 1) := dk_42 (dk_at dksX0_findStrengths_0 10 rfl rfl)
theorem dX0_findStrengths_11 : decode cX0_findStrengths 11 = .ok (.iload_n 1, 1) := dk_27 (dk_at dksX0_findStrengths_0 11 rfl rfl)
theorem dX0_findStrengths_12 : decode cX0_findStrengths 12 = .ok (.iconst 1, 1) := dk_4 (dk_at dksX0_findStrengths_0 12 rfl rfl)
theorem dX0_findStrengths_13 : decode cX0_findStrengths 13 = .ok (.iload_n 3, 1) := dk_29 (dk_at dksX0_findStrengths_0 13 rfl rfl)
theorem dX0_findStrengths_14 : decode cX0_findStrengths 14 = .ok (.invokevirtual 305, 3) := dk_182 1 49 (dk_at dksX0_findStrengths_0 14 rfl rfl)
theorem dX0_findStrengths_17 : decode cX0_findStrengths 17 = .ok (.ifCond .eq 24, 3) := dk_153 0 24 (dk_at dksX0_findStrengths_0 17 rfl rfl)
theorem dX0_findStrengths_20 : decode cX0_findStrengths 20 = .ok (.aload_n 0, 1) := dk_42 (dk_at dksX0_findStrengths_0 20 rfl rfl)
theorem dX0_findStrengths_21 : decode cX0_findStrengths 21 = .ok (.getfield 129, 3) := dk_180 0 129 (dk_at dksX0_findStrengths_0 21 rfl rfl)
theorem dX0_findStrengths_24 : decode cX0_findStrengths 24 = .ok (.iconst 0, 1) := dk_3 (dk_at dksX0_findStrengths_1 0 rfl rfl)
theorem dX0_findStrengths_25 : decode cX0_findStrengths 25 = .ok (.aload_n 0, 1) := dk_42 (dk_at dksX0_findStrengths_1 1 rfl rfl)
theorem dX0_findStrengths_26 : decode cX0_findStrengths 26 = .ok (.getfield 132, 3) := dk_180 0 132 (dk_at dksX0_findStrengths_1 2 rfl rfl)
theorem dX0_findStrengths_29 : decode cX0_findStrengths 29 = .ok (.bipush 21, 2) := dk_16 21 (dk_at dksX0_findStrengths_1 5 rfl rfl)
theorem dX0_findStrengths_31 : decode cX0_findStrengths 31 = .ok (.iload_n 2, 1) := dk_28 (dk_at dksX0_findStrengths_1 7 rfl rfl)
theorem dX0_findStrengths_32 : decode cX0_findStrengths 32 = .ok (.imul, 1) := dk_104 (dk_at dksX0_findStrengths_1 8 rfl rfl)
theorem dX0_findStrengths_33 : decode cX0_findStrengths 33 = .ok (.bipush 21, 2) := dk_16 21 (dk_at dksX0_findStrengths_1 9 rfl rfl)
theorem dX0_findStrengths_35 : decode cX0_findStrengths 35 = .ok (.invokestatic 259, 3) := dk_184 1 3 (dk_at dksX0_findStrengths_1 11 rfl rfl)
theorem dX0_findStrengths_38 : decode cX0_findStrengths 38 = .ok (.iinc 2 1, 3) := dk_132 2 1 (dk_at dksX0_findStrengths_1 14 rfl rfl)
theorem dX0_findStrengths_41 : decode cX0_findStrengths 41 = .ok (.iinc 3 1, 3) := dk_132 3 1 (dk_at dksX0_findStrengths_1 17 rfl rfl)
theorem dX0_findStrengths_44 : decode cX0_findStrengths 44 = .ok (.goto (-40), 3) := dk_167 255 216 (dk_at dksX0_findStrengths_1 20 rfl rfl)
theorem dX0_findStrengths_47 : decode cX0_findStrengths 47 = .ok (.iload_n 2, 1) := dk_28 (dk_at dksX0_findStrengths_1 23 rfl rfl)
theorem dX0_findStrengths_48 : decode cX0_findStrengths 48 = .ok (.ireturn, 1) := dk_172 (dk_at dksX0_findStrengths_2 0 rfl rfl)
abbrev cX0_worstAt : ByteArray := prog_1_method_59_code
def yX0_worstAt : MethodName := ⟨RX0, "worstAt", "(II)I"⟩
def dkwX0_worstAt_3 : List UInt8 := [184, 1, 56, 62, 132, 4, 1, 167, 255, 185, 29, 172]
abbrev dktX0_worstAt_3 : List UInt8 := dkwX0_worstAt_3 ++ []
def dkwX0_worstAt_2 : List UInt8 := [96, 51, 160, 0, 7, 4, 167, 0, 4, 3, 96, 54, 5, 132, 6, 1, 167, 255, 210, 29, 21, 5]
abbrev dktX0_worstAt_2 : List UInt8 := dkwX0_worstAt_2 ++ dktX0_worstAt_3
def dkwX0_worstAt_1 : List UInt8 := [21, 5, 42, 180, 0, 132, 16, 21, 21, 4, 104, 27, 96, 51, 42, 180, 0, 132, 16, 21, 21, 6, 104, 27]
abbrev dktX0_worstAt_1 : List UInt8 := dkwX0_worstAt_1 ++ dktX0_worstAt_2
def dkwX0_worstAt_0 : List UInt8 := [3, 62, 3, 54, 4, 21, 4, 28, 162, 0, 71, 3, 54, 5, 3, 54, 6, 21, 6, 28, 162, 0, 46]
abbrev dktX0_worstAt_0 : List UInt8 := dkwX0_worstAt_0 ++ dktX0_worstAt_1
theorem dksX0_worstAt_0 : cX0_worstAt.data.toList.drop 0 = dktX0_worstAt_0 := by decide +kernel
theorem dksX0_worstAt_1 : cX0_worstAt.data.toList.drop 23 = dktX0_worstAt_1 := dk_seg dksX0_worstAt_0 23 rfl rfl
theorem dksX0_worstAt_2 : cX0_worstAt.data.toList.drop 47 = dktX0_worstAt_2 := dk_seg dksX0_worstAt_1 24 rfl rfl
theorem dksX0_worstAt_3 : cX0_worstAt.data.toList.drop 69 = dktX0_worstAt_3 := dk_seg dksX0_worstAt_2 22 rfl rfl
theorem dX0_worstAt_0 : decode cX0_worstAt 0 = .ok (.iconst 0, 1) := dk_3 (dk_at dksX0_worstAt_0 0 rfl rfl)
theorem dX0_worstAt_1 : decode cX0_worstAt 1 = .ok (.istore_n 3, 1) := dk_62 (dk_at dksX0_worstAt_0 1 rfl rfl)
theorem dX0_worstAt_2 : decode cX0_worstAt 2 = .ok (.iconst 0, 1) := dk_3 (dk_at dksX0_worstAt_0 2 rfl rfl)
theorem dX0_worstAt_3 : decode cX0_worstAt 3 = .ok (.istore 4, 2) := dk_54 4 (dk_at dksX0_worstAt_0 3 rfl rfl)
theorem dX0_worstAt_5 : decode cX0_worstAt 5 = .ok (.iload 4, 2) := dk_21 4 (dk_at dksX0_worstAt_0 5 rfl rfl)
theorem dX0_worstAt_7 : decode cX0_worstAt 7 = .ok (.iload_n 2, 1) := dk_28 (dk_at dksX0_worstAt_0 7 rfl rfl)
theorem dX0_worstAt_8 : decode cX0_worstAt 8 = .ok (.if_icmp .ge 71, 3) := dk_162 0 71 (dk_at dksX0_worstAt_0 8 rfl rfl)
theorem dX0_worstAt_11 : decode cX0_worstAt 11 = .ok (.iconst 0, 1) := dk_3 (dk_at dksX0_worstAt_0 11 rfl rfl)
theorem dX0_worstAt_12 : decode cX0_worstAt 12 = .ok (.istore 5, 2) := dk_54 5 (dk_at dksX0_worstAt_0 12 rfl rfl)
theorem dX0_worstAt_14 : decode cX0_worstAt 14 = .ok (.iconst 0, 1) := dk_3 (dk_at dksX0_worstAt_0 14 rfl rfl)
theorem dX0_worstAt_15 : decode cX0_worstAt 15 = .ok (.istore 6, 2) := dk_54 6 (dk_at dksX0_worstAt_0 15 rfl rfl)
theorem dX0_worstAt_17 : decode cX0_worstAt 17 = .ok (.iload 6, 2) := dk_21 6 (dk_at dksX0_worstAt_0 17 rfl rfl)
theorem dX0_worstAt_19 : decode cX0_worstAt 19 = .ok (.iload_n 2, 1) := dk_28 (dk_at dksX0_worstAt_0 19 rfl rfl)
theorem dX0_worstAt_20 : decode cX0_worstAt 20 = .ok (.if_icmp .ge 46, 3) := dk_162 0 46 (dk_at dksX0_worstAt_0 20 rfl rfl)
theorem dX0_worstAt_23 : decode cX0_worstAt 23 = .ok (.iload 5, 2) := dk_21 5 (dk_at dksX0_worstAt_1 0 rfl rfl)
theorem dX0_worstAt_25 : decode cX0_worstAt 25 = .ok (.aload_n 0, 1) := dk_42 (dk_at dksX0_worstAt_1 2 rfl rfl)
theorem dX0_worstAt_26 : decode cX0_worstAt 26 = .ok (.getfield 132, 3) := dk_180 0 132 (dk_at dksX0_worstAt_1 3 rfl rfl)
theorem dX0_worstAt_29 : decode cX0_worstAt 29 = .ok (.bipush 21, 2) := dk_16 21 (dk_at dksX0_worstAt_1 6 rfl rfl)
theorem dX0_worstAt_31 : decode cX0_worstAt 31 = .ok (.iload 4, 2) := dk_21 4 (dk_at dksX0_worstAt_1 8 rfl rfl)
theorem dX0_worstAt_33 : decode cX0_worstAt 33 = .ok (.imul, 1) := dk_104 (dk_at dksX0_worstAt_1 10 rfl rfl)
theorem dX0_worstAt_34 : decode cX0_worstAt 34 = .ok (.iload_n 1, 1) := dk_27 (dk_at dksX0_worstAt_1 11 rfl rfl)
theorem dX0_worstAt_35 : decode cX0_worstAt 35 = .ok (.iadd, 1) := dk_96 (dk_at dksX0_worstAt_1 12 rfl rfl)
theorem dX0_worstAt_36 : decode cX0_worstAt 36 = .ok (.baload, 1) := dk_51 (dk_at dksX0_worstAt_1 13 rfl rfl)
theorem dX0_worstAt_37 : decode cX0_worstAt 37 = .ok (.aload_n 0, 1) := dk_42 (dk_at dksX0_worstAt_1 14 rfl rfl)
theorem dX0_worstAt_38 : decode cX0_worstAt 38 = .ok (.getfield 132, 3) := dk_180 0 132 (dk_at dksX0_worstAt_1 15 rfl rfl)
theorem dX0_worstAt_41 : decode cX0_worstAt 41 = .ok (.bipush 21, 2) := dk_16 21 (dk_at dksX0_worstAt_1 18 rfl rfl)
theorem dX0_worstAt_43 : decode cX0_worstAt 43 = .ok (.iload 6, 2) := dk_21 6 (dk_at dksX0_worstAt_1 20 rfl rfl)
theorem dX0_worstAt_45 : decode cX0_worstAt 45 = .ok (.imul, 1) := dk_104 (dk_at dksX0_worstAt_1 22 rfl rfl)
theorem dX0_worstAt_46 : decode cX0_worstAt 46 = .ok (.iload_n 1, 1) := dk_27 (dk_at dksX0_worstAt_1 23 rfl rfl)
theorem dX0_worstAt_47 : decode cX0_worstAt 47 = .ok (.iadd, 1) := dk_96 (dk_at dksX0_worstAt_2 0 rfl rfl)
theorem dX0_worstAt_48 : decode cX0_worstAt 48 = .ok (.baload, 1) := dk_51 (dk_at dksX0_worstAt_2 1 rfl rfl)
theorem dX0_worstAt_49 : decode cX0_worstAt 49 = .ok (.if_icmp .ne 7, 3) := dk_160 0 7 (dk_at dksX0_worstAt_2 2 rfl rfl)
theorem dX0_worstAt_52 : decode cX0_worstAt 52 = .ok (.iconst 1, 1) := dk_4 (dk_at dksX0_worstAt_2 5 rfl rfl)
theorem dX0_worstAt_53 : decode cX0_worstAt 53 = .ok (.goto 4, 3) := dk_167 0 4 (dk_at dksX0_worstAt_2 6 rfl rfl)
theorem dX0_worstAt_56 : decode cX0_worstAt 56 = .ok (.iconst 0, 1) := dk_3 (dk_at dksX0_worstAt_2 9 rfl rfl)
theorem dX0_worstAt_57 : decode cX0_worstAt 57 = .ok (.iadd, 1) := dk_96 (dk_at dksX0_worstAt_2 10 rfl rfl)
theorem dX0_worstAt_58 : decode cX0_worstAt 58 = .ok (.istore 5, 2) := dk_54 5 (dk_at dksX0_worstAt_2 11 rfl rfl)
theorem dX0_worstAt_60 : decode cX0_worstAt 60 = .ok (.iinc 6 1, 3) := dk_132 6 1 (dk_at dksX0_worstAt_2 13 rfl rfl)
theorem dX0_worstAt_63 : decode cX0_worstAt 63 = .ok (.goto (-46), 3) := dk_167 255 210 (dk_at dksX0_worstAt_2 16 rfl rfl)
theorem dX0_worstAt_66 : decode cX0_worstAt 66 = .ok (.iload_n 3, 1) := dk_29 (dk_at dksX0_worstAt_2 19 rfl rfl)
theorem dX0_worstAt_67 : decode cX0_worstAt 67 = .ok (.iload 5, 2) := dk_21 5 (dk_at dksX0_worstAt_2 20 rfl rfl)
theorem dX0_worstAt_69 : decode cX0_worstAt 69 = .ok (.invokestatic 312, 3) := dk_184 1 56 (dk_at dksX0_worstAt_3 0 rfl rfl)
theorem dX0_worstAt_72 : decode cX0_worstAt 72 = .ok (.istore_n 3, 1) := dk_62 (dk_at dksX0_worstAt_3 3 rfl rfl)
theorem dX0_worstAt_73 : decode cX0_worstAt 73 = .ok (.iinc 4 1, 3) := dk_132 4 1 (dk_at dksX0_worstAt_3 4 rfl rfl)
theorem dX0_worstAt_76 : decode cX0_worstAt 76 = .ok (.goto (-71), 3) := dk_167 255 185 (dk_at dksX0_worstAt_3 7 rfl rfl)
theorem dX0_worstAt_79 : decode cX0_worstAt 79 = .ok (.iload_n 3, 1) := dk_29 (dk_at dksX0_worstAt_3 10 rfl rfl)
theorem dX0_worstAt_80 : decode cX0_worstAt 80 = .ok (.ireturn, 1) := dk_172 (dk_at dksX0_worstAt_3 11 rfl rfl)
abbrev cX0_drift : ByteArray := prog_1_method_61_code
def yX0_drift : MethodName := ⟨RX0, "drift", "(III)I"⟩
def dkwX0_drift_7 : List UInt8 := [167, 0, 7, 42, 180, 0, 21, 172]
abbrev dktX0_drift_7 : List UInt8 := dkwX0_drift_7 ++ []
def dkwX0_drift_6 : List UInt8 := [180, 0, 81, 182, 0, 70, 132, 5, 1, 167, 255, 166, 29, 154, 0, 14, 42, 180, 0, 81, 6, 182, 0, 89]
abbrev dktX0_drift_6 : List UInt8 := dkwX0_drift_6 ++ dktX0_drift_7
def dkwX0_drift_5 : List UInt8 := [180, 0, 109, 180, 0, 182, 4, 100, 112, 96, 42, 180, 0, 109, 180, 0, 182, 112, 182, 0, 66, 42, 42]
abbrev dktX0_drift_5 : List UInt8 := dkwX0_drift_5 ++ dktX0_drift_6
def dkwX0_drift_4 : List UInt8 := [180, 0, 182, 112, 54, 7, 42, 42, 180, 0, 81, 21, 7, 21, 7, 4, 96, 21, 6, 16, 8, 108, 42]
abbrev dktX0_drift_4 : List UInt8 := dkwX0_drift_4 ++ dktX0_drift_5
def dkwX0_drift_3 : List UInt8 := [17, 48, 57, 96, 54, 4, 21, 4, 16, 16, 124, 17, 127, 255, 126, 54, 6, 21, 6, 42, 180, 0, 109]
abbrev dktX0_drift_3 : List UInt8 := dkwX0_drift_3 ++ dktX0_drift_4
def dkwX0_drift_2 : List UInt8 := [42, 182, 0, 74, 27, 54, 4, 3, 54, 5, 21, 5, 28, 162, 0, 90, 21, 4, 19, 1, 65, 104]
abbrev dktX0_drift_2 : List UInt8 := dkwX0_drift_2 ++ dktX0_drift_3
def dkwX0_drift_1 : List UInt8 := [180, 0, 109, 180, 0, 182, 5, 162, 0, 6, 16, 254, 172, 42, 180, 0, 81, 42, 180, 0, 109, 182, 0, 165]
abbrev dktX0_drift_1 : List UInt8 := dkwX0_drift_1 ++ dktX0_drift_2
def dkwX0_drift_0 : List UInt8 := [28, 133, 10, 20, 0, 189, 184, 0, 144, 153, 0, 10, 29, 184, 0, 196, 154, 0, 5, 2, 172, 42]
abbrev dktX0_drift_0 : List UInt8 := dkwX0_drift_0 ++ dktX0_drift_1
theorem dksX0_drift_0 : cX0_drift.data.toList.drop 0 = dktX0_drift_0 := by decide +kernel
theorem dksX0_drift_1 : cX0_drift.data.toList.drop 22 = dktX0_drift_1 := dk_seg dksX0_drift_0 22 rfl rfl
theorem dksX0_drift_2 : cX0_drift.data.toList.drop 46 = dktX0_drift_2 := dk_seg dksX0_drift_1 24 rfl rfl
theorem dksX0_drift_3 : cX0_drift.data.toList.drop 68 = dktX0_drift_3 := dk_seg dksX0_drift_2 22 rfl rfl
theorem dksX0_drift_4 : cX0_drift.data.toList.drop 91 = dktX0_drift_4 := dk_seg dksX0_drift_3 23 rfl rfl
theorem dksX0_drift_5 : cX0_drift.data.toList.drop 114 = dktX0_drift_5 := dk_seg dksX0_drift_4 23 rfl rfl
theorem dksX0_drift_6 : cX0_drift.data.toList.drop 137 = dktX0_drift_6 := dk_seg dksX0_drift_5 23 rfl rfl
theorem dksX0_drift_7 : cX0_drift.data.toList.drop 161 = dktX0_drift_7 := dk_seg dksX0_drift_6 24 rfl rfl
theorem dX0_drift_0 : decode cX0_drift 0 = .ok (.iload_n 2, 1) := dk_28 (dk_at dksX0_drift_0 0 rfl rfl)
theorem dX0_drift_1 : decode cX0_drift 1 = .ok (.i2l, 1) := dk_133 (dk_at dksX0_drift_0 1 rfl rfl)
theorem dX0_drift_2 : decode cX0_drift 2 = .ok (.lconst 1, 1) := dk_10 (dk_at dksX0_drift_0 2 rfl rfl)
theorem dX0_drift_3 : decode cX0_drift 3 = .ok (.ldc2_w 189, 3) := dk_20 0 189 (dk_at dksX0_drift_0 3 rfl rfl)
theorem dX0_drift_6 : decode cX0_drift 6 = .ok (.invokestatic 144, 3) := dk_184 0 144 (dk_at dksX0_drift_0 6 rfl rfl)
theorem dX0_drift_9 : decode cX0_drift 9 = .ok (.ifCond .eq 10, 3) := dk_153 0 10 (dk_at dksX0_drift_0 9 rfl rfl)
theorem dX0_drift_12 : decode cX0_drift 12 = .ok (.iload_n 3, 1) := dk_29 (dk_at dksX0_drift_0 12 rfl rfl)
theorem dX0_drift_13 : decode cX0_drift 13 = .ok (.invokestatic 196, 3) := dk_184 0 196 (dk_at dksX0_drift_0 13 rfl rfl)
theorem dX0_drift_16 : decode cX0_drift 16 = .ok (.ifCond .ne 5, 3) := dk_154 0 5 (dk_at dksX0_drift_0 16 rfl rfl)
theorem dX0_drift_19 : decode cX0_drift 19 = .ok (.iconst (-1), 1) := dk_2 (dk_at dksX0_drift_0 19 rfl rfl)
theorem dX0_drift_20 : decode cX0_drift 20 = .ok (.ireturn, 1) := dk_172 (dk_at dksX0_drift_0 20 rfl rfl)
theorem dX0_drift_21 : decode cX0_drift 21 = .ok (.aload_n 0, 1) := dk_42 (dk_at dksX0_drift_0 21 rfl rfl)
theorem dX0_drift_22 : decode cX0_drift 22 = .ok (.getfield 109, 3) := dk_180 0 109 (dk_at dksX0_drift_1 0 rfl rfl)
theorem dX0_drift_25 : decode cX0_drift 25 = .ok (.getfield 182, 3) := dk_180 0 182 (dk_at dksX0_drift_1 3 rfl rfl)
theorem dX0_drift_28 : decode cX0_drift 28 = .ok (.iconst 2, 1) := dk_5 (dk_at dksX0_drift_1 6 rfl rfl)
theorem dX0_drift_29 : decode cX0_drift 29 = .ok (.if_icmp .ge 6, 3) := dk_162 0 6 (dk_at dksX0_drift_1 7 rfl rfl)
theorem dX0_drift_32 : decode cX0_drift 32 = .ok (.bipush (-2), 2) := dk_16 254 (dk_at dksX0_drift_1 10 rfl rfl)
theorem dX0_drift_34 : decode cX0_drift 34 = .ok (.ireturn, 1) := dk_172 (dk_at dksX0_drift_1 12 rfl rfl)
theorem dX0_drift_35 : decode cX0_drift 35 = .ok (.aload_n 0, 1) := dk_42 (dk_at dksX0_drift_1 13 rfl rfl)
theorem dX0_drift_36 : decode cX0_drift 36 = .ok (.getfield 81, 3) := dk_180 0 81 (dk_at dksX0_drift_1 14 rfl rfl)
theorem dX0_drift_39 : decode cX0_drift 39 = .ok (.aload_n 0, 1) := dk_42 (dk_at dksX0_drift_1 17 rfl rfl)
theorem dX0_drift_40 : decode cX0_drift 40 = .ok (.getfield 109, 3) := dk_180 0 109 (dk_at dksX0_drift_1 18 rfl rfl)
theorem dX0_drift_43 : decode cX0_drift 43 = .ok (.invokevirtual 165, 3) := dk_182 0 165 (dk_at dksX0_drift_1 21 rfl rfl)
theorem dX0_drift_46 : decode cX0_drift 46 = .ok (.aload_n 0, 1) := dk_42 (dk_at dksX0_drift_2 0 rfl rfl)
theorem dX0_drift_47 : decode cX0_drift 47 = .ok (.invokevirtual 74, 3) := dk_182 0 74 (dk_at dksX0_drift_2 1 rfl rfl)
theorem dX0_drift_50 : decode cX0_drift 50 = .ok (.iload_n 1, 1) := dk_27 (dk_at dksX0_drift_2 4 rfl rfl)
theorem dX0_drift_51 : decode cX0_drift 51 = .ok (.istore 4, 2) := dk_54 4 (dk_at dksX0_drift_2 5 rfl rfl)
theorem dX0_drift_53 : decode cX0_drift 53 = .ok (.iconst 0, 1) := dk_3 (dk_at dksX0_drift_2 7 rfl rfl)
theorem dX0_drift_54 : decode cX0_drift 54 = .ok (.istore 5, 2) := dk_54 5 (dk_at dksX0_drift_2 8 rfl rfl)
theorem dX0_drift_56 : decode cX0_drift 56 = .ok (.iload 5, 2) := dk_21 5 (dk_at dksX0_drift_2 10 rfl rfl)
theorem dX0_drift_58 : decode cX0_drift 58 = .ok (.iload_n 2, 1) := dk_28 (dk_at dksX0_drift_2 12 rfl rfl)
theorem dX0_drift_59 : decode cX0_drift 59 = .ok (.if_icmp .ge 90, 3) := dk_162 0 90 (dk_at dksX0_drift_2 13 rfl rfl)
theorem dX0_drift_62 : decode cX0_drift 62 = .ok (.iload 4, 2) := dk_21 4 (dk_at dksX0_drift_2 16 rfl rfl)
theorem dX0_drift_64 : decode cX0_drift 64 = .ok (.ldc_w 321, 3) := dk_19 1 65 (dk_at dksX0_drift_2 18 rfl rfl)
theorem dX0_drift_67 : decode cX0_drift 67 = .ok (.imul, 1) := dk_104 (dk_at dksX0_drift_2 21 rfl rfl)
theorem dX0_drift_68 : decode cX0_drift 68 = .ok (.sipush 12345, 3) := dk_17 48 57 (dk_at dksX0_drift_3 0 rfl rfl)
theorem dX0_drift_71 : decode cX0_drift 71 = .ok (.iadd, 1) := dk_96 (dk_at dksX0_drift_3 3 rfl rfl)
theorem dX0_drift_72 : decode cX0_drift 72 = .ok (.istore 4, 2) := dk_54 4 (dk_at dksX0_drift_3 4 rfl rfl)
theorem dX0_drift_74 : decode cX0_drift 74 = .ok (.iload 4, 2) := dk_21 4 (dk_at dksX0_drift_3 6 rfl rfl)
theorem dX0_drift_76 : decode cX0_drift 76 = .ok (.bipush 16, 2) := dk_16 16 (dk_at dksX0_drift_3 8 rfl rfl)
theorem dX0_drift_78 : decode cX0_drift 78 = .ok (.iushr, 1) := dk_124 (dk_at dksX0_drift_3 10 rfl rfl)
theorem dX0_drift_79 : decode cX0_drift 79 = .ok (.sipush 32767, 3) := dk_17 127 255 (dk_at dksX0_drift_3 11 rfl rfl)
theorem dX0_drift_82 : decode cX0_drift 82 = .ok (.iand, 1) := dk_126 (dk_at dksX0_drift_3 14 rfl rfl)
theorem dX0_drift_83 : decode cX0_drift 83 = .ok (.istore 6, 2) := dk_54 6 (dk_at dksX0_drift_3 15 rfl rfl)
theorem dX0_drift_85 : decode cX0_drift 85 = .ok (.iload 6, 2) := dk_21 6 (dk_at dksX0_drift_3 17 rfl rfl)
theorem dX0_drift_87 : decode cX0_drift 87 = .ok (.aload_n 0, 1) := dk_42 (dk_at dksX0_drift_3 19 rfl rfl)
theorem dX0_drift_88 : decode cX0_drift 88 = .ok (.getfield 109, 3) := dk_180 0 109 (dk_at dksX0_drift_3 20 rfl rfl)
theorem dX0_drift_91 : decode cX0_drift 91 = .ok (.getfield 182, 3) := dk_180 0 182 (dk_at dksX0_drift_4 0 rfl rfl)
theorem dX0_drift_94 : decode cX0_drift 94 = .ok (.irem, 1) := dk_112 (dk_at dksX0_drift_4 3 rfl rfl)
theorem dX0_drift_95 : decode cX0_drift 95 = .ok (.istore 7, 2) := dk_54 7 (dk_at dksX0_drift_4 4 rfl rfl)
theorem dX0_drift_97 : decode cX0_drift 97 = .ok (.aload_n 0, 1) := dk_42 (dk_at dksX0_drift_4 6 rfl rfl)
theorem dX0_drift_98 : decode cX0_drift 98 = .ok (.aload_n 0, 1) := dk_42 (dk_at dksX0_drift_4 7 rfl rfl)
theorem dX0_drift_99 : decode cX0_drift 99 = .ok (.getfield 81, 3) := dk_180 0 81 (dk_at dksX0_drift_4 8 rfl rfl)
theorem dX0_drift_102 : decode cX0_drift 102 = .ok (.iload 7, 2) := dk_21 7 (dk_at dksX0_drift_4 11 rfl rfl)
theorem dX0_drift_104 : decode cX0_drift 104 = .ok (.iload 7, 2) := dk_21 7 (dk_at dksX0_drift_4 13 rfl rfl)
theorem dX0_drift_106 : decode cX0_drift 106 = .ok (.iconst 1, 1) := dk_4 (dk_at dksX0_drift_4 15 rfl rfl)
theorem dX0_drift_107 : decode cX0_drift 107 = .ok (.iadd, 1) := dk_96 (dk_at dksX0_drift_4 16 rfl rfl)
theorem dX0_drift_108 : decode cX0_drift 108 = .ok (.iload 6, 2) := dk_21 6 (dk_at dksX0_drift_4 17 rfl rfl)
theorem dX0_drift_110 : decode cX0_drift 110 = .ok (.bipush 8, 2) := dk_16 8 (dk_at dksX0_drift_4 19 rfl rfl)
theorem dX0_drift_112 : decode cX0_drift 112 = .ok (.idiv, 1) := dk_108 (dk_at dksX0_drift_4 21 rfl rfl)
theorem dX0_drift_113 : decode cX0_drift 113 = .ok (.aload_n 0, 1) := dk_42 (dk_at dksX0_drift_4 22 rfl rfl)
theorem dX0_drift_114 : decode cX0_drift 114 = .ok (.getfield 109, 3) := dk_180 0 109 (dk_at dksX0_drift_5 0 rfl rfl)
theorem dX0_drift_117 : decode cX0_drift 117 = .ok (.getfield 182, 3) := dk_180 0 182 (dk_at dksX0_drift_5 3 rfl rfl)
theorem dX0_drift_120 : decode cX0_drift 120 = .ok (.iconst 1, 1) := dk_4 (dk_at dksX0_drift_5 6 rfl rfl)
theorem dX0_drift_121 : decode cX0_drift 121 = .ok (.isub, 1) := dk_100 (dk_at dksX0_drift_5 7 rfl rfl)
theorem dX0_drift_122 : decode cX0_drift 122 = .ok (.irem, 1) := dk_112 (dk_at dksX0_drift_5 8 rfl rfl)
theorem dX0_drift_123 : decode cX0_drift 123 = .ok (.iadd, 1) := dk_96 (dk_at dksX0_drift_5 9 rfl rfl)
theorem dX0_drift_124 : decode cX0_drift 124 = .ok (.aload_n 0, 1) := dk_42 (dk_at dksX0_drift_5 10 rfl rfl)
theorem dX0_drift_125 : decode cX0_drift 125 = .ok (.getfield 109, 3) := dk_180 0 109 (dk_at dksX0_drift_5 11 rfl rfl)
theorem dX0_drift_128 : decode cX0_drift 128 = .ok (.getfield 182, 3) := dk_180 0 182 (dk_at dksX0_drift_5 14 rfl rfl)
theorem dX0_drift_131 : decode cX0_drift 131 = .ok (.irem, 1) := dk_112 (dk_at dksX0_drift_5 17 rfl rfl)
theorem dX0_drift_132 : decode cX0_drift 132 = .ok (.invokevirtual 66, 3) := dk_182 0 66 (dk_at dksX0_drift_5 18 rfl rfl)
theorem dX0_drift_135 : decode cX0_drift 135 = .ok (.aload_n 0, 1) := dk_42 (dk_at dksX0_drift_5 21 rfl rfl)
theorem dX0_drift_136 : decode cX0_drift 136 = .ok (.aload_n 0, 1) := dk_42 (dk_at dksX0_drift_5 22 rfl rfl)
theorem dX0_drift_137 : decode cX0_drift 137 = .ok (.getfield 81, 3) := dk_180 0 81 (dk_at dksX0_drift_6 0 rfl rfl)
theorem dX0_drift_140 : decode cX0_drift 140 = .ok (.invokevirtual 70, 3) := dk_182 0 70 (dk_at dksX0_drift_6 3 rfl rfl)
theorem dX0_drift_143 : decode cX0_drift 143 = .ok (.iinc 5 1, 3) := dk_132 5 1 (dk_at dksX0_drift_6 6 rfl rfl)
theorem dX0_drift_146 : decode cX0_drift 146 = .ok (.goto (-90), 3) := dk_167 255 166 (dk_at dksX0_drift_6 9 rfl rfl)
theorem dX0_drift_149 : decode cX0_drift 149 = .ok (.iload_n 3, 1) := dk_29 (dk_at dksX0_drift_6 12 rfl rfl)
theorem dX0_drift_150 : decode cX0_drift 150 = .ok (.ifCond .ne 14, 3) := dk_154 0 14 (dk_at dksX0_drift_6 13 rfl rfl)
theorem dX0_drift_153 : decode cX0_drift 153 = .ok (.aload_n 0, 1) := dk_42 (dk_at dksX0_drift_6 16 rfl rfl)
theorem dX0_drift_154 : decode cX0_drift 154 = .ok (.getfield 81, 3) := dk_180 0 81 (dk_at dksX0_drift_6 17 rfl rfl)
theorem dX0_drift_157 : decode cX0_drift 157 = .ok (.iconst 3, 1) := dk_6 (dk_at dksX0_drift_6 20 rfl rfl)
theorem dX0_drift_158 : decode cX0_drift 158 = .ok (.invokevirtual 89, 3) := dk_182 0 89 (dk_at dksX0_drift_6 21 rfl rfl)
theorem dX0_drift_161 : decode cX0_drift 161 = .ok (.goto 7, 3) := dk_167 0 7 (dk_at dksX0_drift_7 0 rfl rfl)
theorem dX0_drift_164 : decode cX0_drift 164 = .ok (.aload_n 0, 1) := dk_42 (dk_at dksX0_drift_7 3 rfl rfl)
theorem dX0_drift_165 : decode cX0_drift 165 = .ok (.getfield 21, 3) := dk_180 0 21 (dk_at dksX0_drift_7 4 rfl rfl)
theorem dX0_drift_168 : decode cX0_drift 168 = .ok (.ireturn, 1) := dk_172 (dk_at dksX0_drift_7 7 rfl rfl)
abbrev cX0_keep : ByteArray := prog_1_method_62_code
def yX0_keep : MethodName := ⟨RX0, "keep", "(I)I"⟩
def dkwX0_keep_2 : List UInt8 := [28, 172]
abbrev dktX0_keep_2 : List UInt8 := dkwX0_keep_2 ++ []
def dkwX0_keep_1 : List UInt8 := [180, 0, 112, 27, 50, 42, 180, 0, 109, 182, 0, 165, 42, 89, 180, 0, 171, 4, 27, 120, 128, 181, 0, 171]
abbrev dktX0_keep_1 : List UInt8 := dkwX0_keep_1 ++ dktX0_keep_2
def dkwX0_keep_0 : List UInt8 := [27, 133, 9, 10, 184, 0, 144, 154, 0, 5, 2, 172, 42, 180, 0, 171, 27, 122, 4, 126, 61, 42]
abbrev dktX0_keep_0 : List UInt8 := dkwX0_keep_0 ++ dktX0_keep_1
theorem dksX0_keep_0 : cX0_keep.data.toList.drop 0 = dktX0_keep_0 := by decide +kernel
theorem dksX0_keep_1 : cX0_keep.data.toList.drop 22 = dktX0_keep_1 := dk_seg dksX0_keep_0 22 rfl rfl
theorem dksX0_keep_2 : cX0_keep.data.toList.drop 46 = dktX0_keep_2 := dk_seg dksX0_keep_1 24 rfl rfl
theorem dX0_keep_0 : decode cX0_keep 0 = .ok (.iload_n 1, 1) := dk_27 (dk_at dksX0_keep_0 0 rfl rfl)
theorem dX0_keep_1 : decode cX0_keep 1 = .ok (.i2l, 1) := dk_133 (dk_at dksX0_keep_0 1 rfl rfl)
theorem dX0_keep_2 : decode cX0_keep 2 = .ok (.lconst 0, 1) := dk_9 (dk_at dksX0_keep_0 2 rfl rfl)
theorem dX0_keep_3 : decode cX0_keep 3 = .ok (.lconst 1, 1) := dk_10 (dk_at dksX0_keep_0 3 rfl rfl)
theorem dX0_keep_4 : decode cX0_keep 4 = .ok (.invokestatic 144, 3) := dk_184 0 144 (dk_at dksX0_keep_0 4 rfl rfl)
theorem dX0_keep_7 : decode cX0_keep 7 = .ok (.ifCond .ne 5, 3) := dk_154 0 5 (dk_at dksX0_keep_0 7 rfl rfl)
theorem dX0_keep_10 : decode cX0_keep 10 = .ok (.iconst (-1), 1) := dk_2 (dk_at dksX0_keep_0 10 rfl rfl)
theorem dX0_keep_11 : decode cX0_keep 11 = .ok (.ireturn, 1) := dk_172 (dk_at dksX0_keep_0 11 rfl rfl)
theorem dX0_keep_12 : decode cX0_keep 12 = .ok (.aload_n 0, 1) := dk_42 (dk_at dksX0_keep_0 12 rfl rfl)
theorem dX0_keep_13 : decode cX0_keep 13 = .ok (.getfield 171, 3) := dk_180 0 171 (dk_at dksX0_keep_0 13 rfl rfl)
theorem dX0_keep_16 : decode cX0_keep 16 = .ok (.iload_n 1, 1) := dk_27 (dk_at dksX0_keep_0 16 rfl rfl)
theorem dX0_keep_17 : decode cX0_keep 17 = .ok (.ishr, 1) := dk_122 (dk_at dksX0_keep_0 17 rfl rfl)
theorem dX0_keep_18 : decode cX0_keep 18 = .ok (.iconst 1, 1) := dk_4 (dk_at dksX0_keep_0 18 rfl rfl)
theorem dX0_keep_19 : decode cX0_keep 19 = .ok (.iand, 1) := dk_126 (dk_at dksX0_keep_0 19 rfl rfl)
theorem dX0_keep_20 : decode cX0_keep 20 = .ok (.istore_n 2, 1) := dk_61 (dk_at dksX0_keep_0 20 rfl rfl)
theorem dX0_keep_21 : decode cX0_keep 21 = .ok (.aload_n 0, 1) := dk_42 (dk_at dksX0_keep_0 21 rfl rfl)
theorem dX0_keep_22 : decode cX0_keep 22 = .ok (.getfield 112, 3) := dk_180 0 112 (dk_at dksX0_keep_1 0 rfl rfl)
theorem dX0_keep_25 : decode cX0_keep 25 = .ok (.iload_n 1, 1) := dk_27 (dk_at dksX0_keep_1 3 rfl rfl)
theorem dX0_keep_26 : decode cX0_keep 26 = .ok (.aaload, 1) := dk_50 (dk_at dksX0_keep_1 4 rfl rfl)
theorem dX0_keep_27 : decode cX0_keep 27 = .ok (.aload_n 0, 1) := dk_42 (dk_at dksX0_keep_1 5 rfl rfl)
theorem dX0_keep_28 : decode cX0_keep 28 = .ok (.getfield 109, 3) := dk_180 0 109 (dk_at dksX0_keep_1 6 rfl rfl)
theorem dX0_keep_31 : decode cX0_keep 31 = .ok (.invokevirtual 165, 3) := dk_182 0 165 (dk_at dksX0_keep_1 9 rfl rfl)
theorem dX0_keep_34 : decode cX0_keep 34 = .ok (.aload_n 0, 1) := dk_42 (dk_at dksX0_keep_1 12 rfl rfl)
theorem dX0_keep_35 : decode cX0_keep 35 = .ok (.dup, 1) := dk_89 (dk_at dksX0_keep_1 13 rfl rfl)
theorem dX0_keep_36 : decode cX0_keep 36 = .ok (.getfield 171, 3) := dk_180 0 171 (dk_at dksX0_keep_1 14 rfl rfl)
theorem dX0_keep_39 : decode cX0_keep 39 = .ok (.iconst 1, 1) := dk_4 (dk_at dksX0_keep_1 17 rfl rfl)
theorem dX0_keep_40 : decode cX0_keep 40 = .ok (.iload_n 1, 1) := dk_27 (dk_at dksX0_keep_1 18 rfl rfl)
theorem dX0_keep_41 : decode cX0_keep 41 = .ok (.ishl, 1) := dk_120 (dk_at dksX0_keep_1 19 rfl rfl)
theorem dX0_keep_42 : decode cX0_keep 42 = .ok (.ior, 1) := dk_128 (dk_at dksX0_keep_1 20 rfl rfl)
theorem dX0_keep_43 : decode cX0_keep 43 = .ok (.putfield 171, 3) := dk_181 0 171 (dk_at dksX0_keep_1 21 rfl rfl)
theorem dX0_keep_46 : decode cX0_keep 46 = .ok (.iload_n 2, 1) := dk_28 (dk_at dksX0_keep_2 0 rfl rfl)
theorem dX0_keep_47 : decode cX0_keep 47 = .ok (.ireturn, 1) := dk_172 (dk_at dksX0_keep_2 1 rfl rfl)
abbrev cX0_back : ByteArray := prog_1_method_63_code
def yX0_back : MethodName := ⟨RX0, "back", "(I)I"⟩
def dkwX0_back_1 : List UInt8 := [16, 254, 172, 42, 180, 0, 109, 42, 180, 0, 112, 27, 50, 182, 0, 165, 42, 180, 0, 109, 180, 0, 56, 172]
abbrev dktX0_back_1 : List UInt8 := dkwX0_back_1 ++ []
def dkwX0_back_0 : List UInt8 := [27, 133, 9, 10, 184, 0, 144, 154, 0, 5, 2, 172, 42, 180, 0, 171, 27, 184, 1, 25, 154, 0, 6]
abbrev dktX0_back_0 : List UInt8 := dkwX0_back_0 ++ dktX0_back_1
theorem dksX0_back_0 : cX0_back.data.toList.drop 0 = dktX0_back_0 := by decide +kernel
theorem dksX0_back_1 : cX0_back.data.toList.drop 23 = dktX0_back_1 := dk_seg dksX0_back_0 23 rfl rfl
theorem dX0_back_0 : decode cX0_back 0 = .ok (.iload_n 1, 1) := dk_27 (dk_at dksX0_back_0 0 rfl rfl)
theorem dX0_back_1 : decode cX0_back 1 = .ok (.i2l, 1) := dk_133 (dk_at dksX0_back_0 1 rfl rfl)
theorem dX0_back_2 : decode cX0_back 2 = .ok (.lconst 0, 1) := dk_9 (dk_at dksX0_back_0 2 rfl rfl)
theorem dX0_back_3 : decode cX0_back 3 = .ok (.lconst 1, 1) := dk_10 (dk_at dksX0_back_0 3 rfl rfl)
theorem dX0_back_4 : decode cX0_back 4 = .ok (.invokestatic 144, 3) := dk_184 0 144 (dk_at dksX0_back_0 4 rfl rfl)
theorem dX0_back_7 : decode cX0_back 7 = .ok (.ifCond .ne 5, 3) := dk_154 0 5 (dk_at dksX0_back_0 7 rfl rfl)
theorem dX0_back_10 : decode cX0_back 10 = .ok (.iconst (-1), 1) := dk_2 (dk_at dksX0_back_0 10 rfl rfl)
theorem dX0_back_11 : decode cX0_back 11 = .ok (.ireturn, 1) := dk_172 (dk_at dksX0_back_0 11 rfl rfl)
theorem dX0_back_12 : decode cX0_back 12 = .ok (.aload_n 0, 1) := dk_42 (dk_at dksX0_back_0 12 rfl rfl)
theorem dX0_back_13 : decode cX0_back 13 = .ok (.getfield 171, 3) := dk_180 0 171 (dk_at dksX0_back_0 13 rfl rfl)
theorem dX0_back_16 : decode cX0_back 16 = .ok (.iload_n 1, 1) := dk_27 (dk_at dksX0_back_0 16 rfl rfl)
theorem dX0_back_17 : decode cX0_back 17 = .ok (.invokestatic 281, 3) := dk_184 1 25 (dk_at dksX0_back_0 17 rfl rfl)
theorem dX0_back_20 : decode cX0_back 20 = .ok (.ifCond .ne 6, 3) := dk_154 0 6 (dk_at dksX0_back_0 20 rfl rfl)
theorem dX0_back_23 : decode cX0_back 23 = .ok (.bipush (-2), 2) := dk_16 254 (dk_at dksX0_back_1 0 rfl rfl)
theorem dX0_back_25 : decode cX0_back 25 = .ok (.ireturn, 1) := dk_172 (dk_at dksX0_back_1 2 rfl rfl)
theorem dX0_back_26 : decode cX0_back 26 = .ok (.aload_n 0, 1) := dk_42 (dk_at dksX0_back_1 3 rfl rfl)
theorem dX0_back_27 : decode cX0_back 27 = .ok (.getfield 109, 3) := dk_180 0 109 (dk_at dksX0_back_1 4 rfl rfl)
theorem dX0_back_30 : decode cX0_back 30 = .ok (.aload_n 0, 1) := dk_42 (dk_at dksX0_back_1 7 rfl rfl)
theorem dX0_back_31 : decode cX0_back 31 = .ok (.getfield 112, 3) := dk_180 0 112 (dk_at dksX0_back_1 8 rfl rfl)
theorem dX0_back_34 : decode cX0_back 34 = .ok (.iload_n 1, 1) := dk_27 (dk_at dksX0_back_1 11 rfl rfl)
theorem dX0_back_35 : decode cX0_back 35 = .ok (.aaload, 1) := dk_50 (dk_at dksX0_back_1 12 rfl rfl)
theorem dX0_back_36 : decode cX0_back 36 = .ok (.invokevirtual 165, 3) := dk_182 0 165 (dk_at dksX0_back_1 13 rfl rfl)
theorem dX0_back_39 : decode cX0_back 39 = .ok (.aload_n 0, 1) := dk_42 (dk_at dksX0_back_1 16 rfl rfl)
theorem dX0_back_40 : decode cX0_back 40 = .ok (.getfield 109, 3) := dk_180 0 109 (dk_at dksX0_back_1 17 rfl rfl)
theorem dX0_back_43 : decode cX0_back 43 = .ok (.getfield 56, 3) := dk_180 0 56 (dk_at dksX0_back_1 20 rfl rfl)
theorem dX0_back_46 : decode cX0_back 46 = .ok (.ireturn, 1) := dk_172 (dk_at dksX0_back_1 23 rfl rfl)
abbrev cX0_sheet : ByteArray := prog_1_method_65_code
def yX0_sheet : MethodName := ⟨RX0, "sheet", "(III)I"⟩
def dkwX0_sheet_2 : List UInt8 := [181, 1, 69, 4, 172, 58, 4, 16, 242, 172]
abbrev dktX0_sheet_2 : List UInt8 := dkwX0_sheet_2 ++ []
def dkwX0_sheet_1 : List UInt8 := [154, 0, 9, 29, 188, 8, 167, 0, 17, 28, 4, 160, 0, 9, 29, 188, 9, 167, 0, 6, 29, 188, 10]
abbrev dktX0_sheet_1 : List UInt8 := dkwX0_sheet_1 ++ dktX0_sheet_2
def dkwX0_sheet_0 : List UInt8 := [27, 28, 184, 1, 66, 153, 0, 9, 29, 16, 40, 164, 0, 5, 2, 172, 42, 180, 0, 137, 27, 50, 28]
abbrev dktX0_sheet_0 : List UInt8 := dkwX0_sheet_0 ++ dktX0_sheet_1
theorem dksX0_sheet_0 : cX0_sheet.data.toList.drop 0 = dktX0_sheet_0 := by decide +kernel
theorem dksX0_sheet_1 : cX0_sheet.data.toList.drop 23 = dktX0_sheet_1 := dk_seg dksX0_sheet_0 23 rfl rfl
theorem dksX0_sheet_2 : cX0_sheet.data.toList.drop 46 = dktX0_sheet_2 := dk_seg dksX0_sheet_1 23 rfl rfl
theorem dX0_sheet_0 : decode cX0_sheet 0 = .ok (.iload_n 1, 1) := dk_27 (dk_at dksX0_sheet_0 0 rfl rfl)
theorem dX0_sheet_1 : decode cX0_sheet 1 = .ok (.iload_n 2, 1) := dk_28 (dk_at dksX0_sheet_0 1 rfl rfl)
theorem dX0_sheet_2 : decode cX0_sheet 2 = .ok (.invokestatic 322, 3) := dk_184 1 66 (dk_at dksX0_sheet_0 2 rfl rfl)
theorem dX0_sheet_5 : decode cX0_sheet 5 = .ok (.ifCond .eq 9, 3) := dk_153 0 9 (dk_at dksX0_sheet_0 5 rfl rfl)
theorem dX0_sheet_8 : decode cX0_sheet 8 = .ok (.iload_n 3, 1) := dk_29 (dk_at dksX0_sheet_0 8 rfl rfl)
theorem dX0_sheet_9 : decode cX0_sheet 9 = .ok (.bipush 40, 2) := dk_16 40 (dk_at dksX0_sheet_0 9 rfl rfl)
theorem dX0_sheet_11 : decode cX0_sheet 11 = .ok (.if_icmp .le 5, 3) := dk_164 0 5 (dk_at dksX0_sheet_0 11 rfl rfl)
theorem dX0_sheet_14 : decode cX0_sheet 14 = .ok (.iconst (-1), 1) := dk_2 (dk_at dksX0_sheet_0 14 rfl rfl)
theorem dX0_sheet_15 : decode cX0_sheet 15 = .ok (.ireturn, 1) := dk_172 (dk_at dksX0_sheet_0 15 rfl rfl)
theorem dX0_sheet_16 : decode cX0_sheet 16 = .ok (.aload_n 0, 1) := dk_42 (dk_at dksX0_sheet_0 16 rfl rfl)
theorem dX0_sheet_17 : decode cX0_sheet 17 = .ok (.getfield 137, 3) := dk_180 0 137 (dk_at dksX0_sheet_0 17 rfl rfl)
theorem dX0_sheet_20 : decode cX0_sheet 20 = .ok (.iload_n 1, 1) := dk_27 (dk_at dksX0_sheet_0 20 rfl rfl)
theorem dX0_sheet_21 : decode cX0_sheet 21 = .ok (.aaload, 1) := dk_50 (dk_at dksX0_sheet_0 21 rfl rfl)
theorem dX0_sheet_22 : decode cX0_sheet 22 = .ok (.iload_n 2, 1) := dk_28 (dk_at dksX0_sheet_0 22 rfl rfl)
theorem dX0_sheet_23 : decode cX0_sheet 23 = .ok (.ifCond .ne 9, 3) := dk_154 0 9 (dk_at dksX0_sheet_1 0 rfl rfl)
theorem dX0_sheet_26 : decode cX0_sheet 26 = .ok (.iload_n 3, 1) := dk_29 (dk_at dksX0_sheet_1 3 rfl rfl)
theorem dX0_sheet_27 : decode cX0_sheet 27 = .ok (.newarray .byte, 2) := dk_188_8 (dk_at dksX0_sheet_1 4 rfl rfl)
theorem dX0_sheet_29 : decode cX0_sheet 29 = .ok (.goto 17, 3) := dk_167 0 17 (dk_at dksX0_sheet_1 6 rfl rfl)
theorem dX0_sheet_32 : decode cX0_sheet 32 = .ok (.iload_n 2, 1) := dk_28 (dk_at dksX0_sheet_1 9 rfl rfl)
theorem dX0_sheet_33 : decode cX0_sheet 33 = .ok (.iconst 1, 1) := dk_4 (dk_at dksX0_sheet_1 10 rfl rfl)
theorem dX0_sheet_34 : decode cX0_sheet 34 = .ok (.if_icmp .ne 9, 3) := dk_160 0 9 (dk_at dksX0_sheet_1 11 rfl rfl)
theorem dX0_sheet_37 : decode cX0_sheet 37 = .ok (.iload_n 3, 1) := dk_29 (dk_at dksX0_sheet_1 14 rfl rfl)
theorem dX0_sheet_38 : decode cX0_sheet 38 = .ok (.newarray .short, 2) := dk_188_9 (dk_at dksX0_sheet_1 15 rfl rfl)
theorem dX0_sheet_40 : decode cX0_sheet 40 = .ok (.goto 6, 3) := dk_167 0 6 (dk_at dksX0_sheet_1 17 rfl rfl)
theorem dX0_sheet_43 : decode cX0_sheet 43 = .ok (.iload_n 3, 1) := dk_29 (dk_at dksX0_sheet_1 20 rfl rfl)
theorem dX0_sheet_44 : decode cX0_sheet 44 = .ok (.newarray .int, 2) := dk_188_10 (dk_at dksX0_sheet_1 21 rfl rfl)
theorem dX0_sheet_46 : decode cX0_sheet 46 = .ok (.putfield 325, 3) := dk_181 1 69 (dk_at dksX0_sheet_2 0 rfl rfl)
theorem dX0_sheet_49 : decode cX0_sheet 49 = .ok (.iconst 1, 1) := dk_4 (dk_at dksX0_sheet_2 3 rfl rfl)
theorem dX0_sheet_50 : decode cX0_sheet 50 = .ok (.ireturn, 1) := dk_172 (dk_at dksX0_sheet_2 4 rfl rfl)
theorem dX0_sheet_51 : decode cX0_sheet 51 = .ok (.astore 4, 2) := dk_58 4 (dk_at dksX0_sheet_2 5 rfl rfl)
theorem dX0_sheet_53 : decode cX0_sheet 53 = .ok (.bipush (-14), 2) := dk_16 242 (dk_at dksX0_sheet_2 7 rfl rfl)
theorem dX0_sheet_55 : decode cX0_sheet 55 = .ok (.ireturn, 1) := dk_172 (dk_at dksX0_sheet_2 9 rfl rfl)
abbrev cX0_isSheet : ByteArray := prog_1_method_64_code
def yX0_isSheet : MethodName := ⟨RX0, "isSheet", "(II)Z"⟩
def dkwX0_isSheet_1 : List UInt8 := [4, 167, 0, 4, 3, 172]
abbrev dktX0_isSheet_1 : List UInt8 := dkwX0_isSheet_1 ++ []
def dkwX0_isSheet_0 : List UInt8 := [26, 133, 9, 20, 0, 203, 184, 0, 144, 153, 0, 19, 27, 133, 9, 20, 0, 228, 184, 0, 144, 153, 0, 7]
abbrev dktX0_isSheet_0 : List UInt8 := dkwX0_isSheet_0 ++ dktX0_isSheet_1
theorem dksX0_isSheet_0 : cX0_isSheet.data.toList.drop 0 = dktX0_isSheet_0 := by decide +kernel
theorem dksX0_isSheet_1 : cX0_isSheet.data.toList.drop 24 = dktX0_isSheet_1 := dk_seg dksX0_isSheet_0 24 rfl rfl
theorem dX0_isSheet_0 : decode cX0_isSheet 0 = .ok (.iload_n 0, 1) := dk_26 (dk_at dksX0_isSheet_0 0 rfl rfl)
theorem dX0_isSheet_1 : decode cX0_isSheet 1 = .ok (.i2l, 1) := dk_133 (dk_at dksX0_isSheet_0 1 rfl rfl)
theorem dX0_isSheet_2 : decode cX0_isSheet 2 = .ok (.lconst 0, 1) := dk_9 (dk_at dksX0_isSheet_0 2 rfl rfl)
theorem dX0_isSheet_3 : decode cX0_isSheet 3 = .ok (.ldc2_w 203, 3) := dk_20 0 203 (dk_at dksX0_isSheet_0 3 rfl rfl)
theorem dX0_isSheet_6 : decode cX0_isSheet 6 = .ok (.invokestatic 144, 3) := dk_184 0 144 (dk_at dksX0_isSheet_0 6 rfl rfl)
theorem dX0_isSheet_9 : decode cX0_isSheet 9 = .ok (.ifCond .eq 19, 3) := dk_153 0 19 (dk_at dksX0_isSheet_0 9 rfl rfl)
theorem dX0_isSheet_12 : decode cX0_isSheet 12 = .ok (.iload_n 1, 1) := dk_27 (dk_at dksX0_isSheet_0 12 rfl rfl)
theorem dX0_isSheet_13 : decode cX0_isSheet 13 = .ok (.i2l, 1) := dk_133 (dk_at dksX0_isSheet_0 13 rfl rfl)
theorem dX0_isSheet_14 : decode cX0_isSheet 14 = .ok (.lconst 0, 1) := dk_9 (dk_at dksX0_isSheet_0 14 rfl rfl)
theorem dX0_isSheet_15 : decode cX0_isSheet 15 = .ok (.ldc2_w 228, 3) := dk_20 0 228 (dk_at dksX0_isSheet_0 15 rfl rfl)
theorem dX0_isSheet_18 : decode cX0_isSheet 18 = .ok (.invokestatic 144, 3) := dk_184 0 144 (dk_at dksX0_isSheet_0 18 rfl rfl)
theorem dX0_isSheet_21 : decode cX0_isSheet 21 = .ok (.ifCond .eq 7, 3) := dk_153 0 7 (dk_at dksX0_isSheet_0 21 rfl rfl)
theorem dX0_isSheet_24 : decode cX0_isSheet 24 = .ok (.iconst 1, 1) := dk_4 (dk_at dksX0_isSheet_1 0 rfl rfl)
theorem dX0_isSheet_25 : decode cX0_isSheet 25 = .ok (.goto 4, 3) := dk_167 0 4 (dk_at dksX0_isSheet_1 1 rfl rfl)
theorem dX0_isSheet_28 : decode cX0_isSheet 28 = .ok (.iconst 0, 1) := dk_3 (dk_at dksX0_isSheet_1 4 rfl rfl)
theorem dX0_isSheet_29 : decode cX0_isSheet 29 = .ok (.ireturn, 1) := dk_172 (dk_at dksX0_isSheet_1 5 rfl rfl)
abbrev cX0_lay : ByteArray := prog_1_method_66_code
def yX0_lay : MethodName := ⟨RX0, "lay", "(III)I"⟩
def dkwX0_lay_3 : List UInt8 := [29, 79, 4, 172, 58, 5, 16, 245, 172, 58, 5, 16, 244, 172]
abbrev dktX0_lay_3 : List UInt8 := dkwX0_lay_3 ++ []
def dkwX0_lay_2 : List UInt8 := [193, 1, 76, 153, 0, 15, 25, 4, 192, 1, 76, 28, 29, 147, 86, 167, 0, 11, 25, 4, 192, 1, 78, 28]
abbrev dktX0_lay_2 : List UInt8 := dkwX0_lay_2 ++ dktX0_lay_3
def dkwX0_lay_1 : List UInt8 := [58, 4, 25, 4, 193, 1, 75, 153, 0, 15, 25, 4, 192, 1, 75, 28, 29, 145, 84, 167, 0, 31, 25, 4]
abbrev dktX0_lay_1 : List UInt8 := dkwX0_lay_1 ++ dktX0_lay_2
def dkwX0_lay_0 : List UInt8 := [27, 133, 9, 20, 0, 203, 184, 0, 144, 154, 0, 5, 2, 172, 42, 180, 0, 137, 27, 50, 180, 1, 69]
abbrev dktX0_lay_0 : List UInt8 := dkwX0_lay_0 ++ dktX0_lay_1
theorem dksX0_lay_0 : cX0_lay.data.toList.drop 0 = dktX0_lay_0 := by decide +kernel
theorem dksX0_lay_1 : cX0_lay.data.toList.drop 23 = dktX0_lay_1 := dk_seg dksX0_lay_0 23 rfl rfl
theorem dksX0_lay_2 : cX0_lay.data.toList.drop 47 = dktX0_lay_2 := dk_seg dksX0_lay_1 24 rfl rfl
theorem dksX0_lay_3 : cX0_lay.data.toList.drop 71 = dktX0_lay_3 := dk_seg dksX0_lay_2 24 rfl rfl
theorem dX0_lay_0 : decode cX0_lay 0 = .ok (.iload_n 1, 1) := dk_27 (dk_at dksX0_lay_0 0 rfl rfl)
theorem dX0_lay_1 : decode cX0_lay 1 = .ok (.i2l, 1) := dk_133 (dk_at dksX0_lay_0 1 rfl rfl)
theorem dX0_lay_2 : decode cX0_lay 2 = .ok (.lconst 0, 1) := dk_9 (dk_at dksX0_lay_0 2 rfl rfl)
theorem dX0_lay_3 : decode cX0_lay 3 = .ok (.ldc2_w 203, 3) := dk_20 0 203 (dk_at dksX0_lay_0 3 rfl rfl)
theorem dX0_lay_6 : decode cX0_lay 6 = .ok (.invokestatic 144, 3) := dk_184 0 144 (dk_at dksX0_lay_0 6 rfl rfl)
theorem dX0_lay_9 : decode cX0_lay 9 = .ok (.ifCond .ne 5, 3) := dk_154 0 5 (dk_at dksX0_lay_0 9 rfl rfl)
theorem dX0_lay_12 : decode cX0_lay 12 = .ok (.iconst (-1), 1) := dk_2 (dk_at dksX0_lay_0 12 rfl rfl)
theorem dX0_lay_13 : decode cX0_lay 13 = .ok (.ireturn, 1) := dk_172 (dk_at dksX0_lay_0 13 rfl rfl)
theorem dX0_lay_14 : decode cX0_lay 14 = .ok (.aload_n 0, 1) := dk_42 (dk_at dksX0_lay_0 14 rfl rfl)
theorem dX0_lay_15 : decode cX0_lay 15 = .ok (.getfield 137, 3) := dk_180 0 137 (dk_at dksX0_lay_0 15 rfl rfl)
theorem dX0_lay_18 : decode cX0_lay 18 = .ok (.iload_n 1, 1) := dk_27 (dk_at dksX0_lay_0 18 rfl rfl)
theorem dX0_lay_19 : decode cX0_lay 19 = .ok (.aaload, 1) := dk_50 (dk_at dksX0_lay_0 19 rfl rfl)
theorem dX0_lay_20 : decode cX0_lay 20 = .ok (.getfield 325, 3) := dk_180 1 69 (dk_at dksX0_lay_0 20 rfl rfl)
theorem dX0_lay_23 : decode cX0_lay 23 = .ok (.astore 4, 2) := dk_58 4 (dk_at dksX0_lay_1 0 rfl rfl)
theorem dX0_lay_25 : decode cX0_lay 25 = .ok (.aload 4, 2) := dk_25 4 (dk_at dksX0_lay_1 2 rfl rfl)
theorem dX0_lay_27 : decode cX0_lay 27 = .ok (.instanceof 331, 3) := dk_193 1 75 (dk_at dksX0_lay_1 4 rfl rfl)
theorem dX0_lay_30 : decode cX0_lay 30 = .ok (.ifCond .eq 15, 3) := dk_153 0 15 (dk_at dksX0_lay_1 7 rfl rfl)
theorem dX0_lay_33 : decode cX0_lay 33 = .ok (.aload 4, 2) := dk_25 4 (dk_at dksX0_lay_1 10 rfl rfl)
theorem dX0_lay_35 : decode cX0_lay 35 = .ok (.checkcast 331, 3) := dk_192 1 75 (dk_at dksX0_lay_1 12 rfl rfl)
theorem dX0_lay_38 : decode cX0_lay 38 = .ok (.iload_n 2, 1) := dk_28 (dk_at dksX0_lay_1 15 rfl rfl)
theorem dX0_lay_39 : decode cX0_lay 39 = .ok (.iload_n 3, 1) := dk_29 (dk_at dksX0_lay_1 16 rfl rfl)
theorem dX0_lay_40 : decode cX0_lay 40 = .ok (.i2b, 1) := dk_145 (dk_at dksX0_lay_1 17 rfl rfl)
theorem dX0_lay_41 : decode cX0_lay 41 = .ok (.bastore, 1) := dk_84 (dk_at dksX0_lay_1 18 rfl rfl)
theorem dX0_lay_42 : decode cX0_lay 42 = .ok (.goto 31, 3) := dk_167 0 31 (dk_at dksX0_lay_1 19 rfl rfl)
theorem dX0_lay_45 : decode cX0_lay 45 = .ok (.aload 4, 2) := dk_25 4 (dk_at dksX0_lay_1 22 rfl rfl)
theorem dX0_lay_47 : decode cX0_lay 47 = .ok (.instanceof 332, 3) := dk_193 1 76 (dk_at dksX0_lay_2 0 rfl rfl)
theorem dX0_lay_50 : decode cX0_lay 50 = .ok (.ifCond .eq 15, 3) := dk_153 0 15 (dk_at dksX0_lay_2 3 rfl rfl)
theorem dX0_lay_53 : decode cX0_lay 53 = .ok (.aload 4, 2) := dk_25 4 (dk_at dksX0_lay_2 6 rfl rfl)
theorem dX0_lay_55 : decode cX0_lay 55 = .ok (.checkcast 332, 3) := dk_192 1 76 (dk_at dksX0_lay_2 8 rfl rfl)
theorem dX0_lay_58 : decode cX0_lay 58 = .ok (.iload_n 2, 1) := dk_28 (dk_at dksX0_lay_2 11 rfl rfl)
theorem dX0_lay_59 : decode cX0_lay 59 = .ok (.iload_n 3, 1) := dk_29 (dk_at dksX0_lay_2 12 rfl rfl)
theorem dX0_lay_60 : decode cX0_lay 60 = .ok (.i2s, 1) := dk_147 (dk_at dksX0_lay_2 13 rfl rfl)
theorem dX0_lay_61 : decode cX0_lay 61 = .ok (.sastore, 1) := dk_86 (dk_at dksX0_lay_2 14 rfl rfl)
theorem dX0_lay_62 : decode cX0_lay 62 = .ok (.goto 11, 3) := dk_167 0 11 (dk_at dksX0_lay_2 15 rfl rfl)
theorem dX0_lay_65 : decode cX0_lay 65 = .ok (.aload 4, 2) := dk_25 4 (dk_at dksX0_lay_2 18 rfl rfl)
theorem dX0_lay_67 : decode cX0_lay 67 = .ok (.checkcast 334, 3) := dk_192 1 78 (dk_at dksX0_lay_2 20 rfl rfl)
theorem dX0_lay_70 : decode cX0_lay 70 = .ok (.iload_n 2, 1) := dk_28 (dk_at dksX0_lay_2 23 rfl rfl)
theorem dX0_lay_71 : decode cX0_lay 71 = .ok (.iload_n 3, 1) := dk_29 (dk_at dksX0_lay_3 0 rfl rfl)
theorem dX0_lay_72 : decode cX0_lay 72 = .ok (.iastore, 1) := dk_79 (dk_at dksX0_lay_3 1 rfl rfl)
theorem dX0_lay_73 : decode cX0_lay 73 = .ok (.iconst 1, 1) := dk_4 (dk_at dksX0_lay_3 2 rfl rfl)
theorem dX0_lay_74 : decode cX0_lay 74 = .ok (.ireturn, 1) := dk_172 (dk_at dksX0_lay_3 3 rfl rfl)
theorem dX0_lay_75 : decode cX0_lay 75 = .ok (.astore 5, 2) := dk_58 5 (dk_at dksX0_lay_3 4 rfl rfl)
theorem dX0_lay_77 : decode cX0_lay 77 = .ok (.bipush (-11), 2) := dk_16 245 (dk_at dksX0_lay_3 6 rfl rfl)
theorem dX0_lay_79 : decode cX0_lay 79 = .ok (.ireturn, 1) := dk_172 (dk_at dksX0_lay_3 8 rfl rfl)
theorem dX0_lay_80 : decode cX0_lay 80 = .ok (.astore 5, 2) := dk_58 5 (dk_at dksX0_lay_3 9 rfl rfl)
theorem dX0_lay_82 : decode cX0_lay 82 = .ok (.bipush (-12), 2) := dk_16 244 (dk_at dksX0_lay_3 11 rfl rfl)
theorem dX0_lay_84 : decode cX0_lay 84 = .ok (.ireturn, 1) := dk_172 (dk_at dksX0_lay_3 13 rfl rfl)
abbrev cX0_read : ByteArray := prog_1_method_68_code
def yX0_read : MethodName := ⟨RX0, "read", "(IIII)I"⟩
def dkwX0_read_5 : List UInt8 := [58, 7, 6, 54, 5, 167, 0, 8, 58, 7, 5, 54, 5, 42, 21, 5, 181, 1, 91, 21, 6, 172]
abbrev dktX0_read_5 : List UInt8 := dkwX0_read_5 ++ []
def dkwX0_read_4 : List UInt8 := [16, 236, 21, 6, 100, 172, 132, 6, 1, 167, 255, 192, 167, 0, 24, 58, 7, 4, 54, 5, 167, 0, 16]
abbrev dktX0_read_4 : List UInt8 := dkwX0_read_4 ++ dktX0_read_5
def dkwX0_read_3 : List UInt8 := [96, 4, 96, 182, 1, 83, 182, 1, 86, 156, 0, 20, 42, 180, 0, 109, 42, 180, 0, 81, 182, 0, 165]
abbrev dktX0_read_3 : List UInt8 := dkwX0_read_3 ++ dktX0_read_4
def dkwX0_read_2 : List UInt8 := [27, 28, 29, 5, 21, 6, 104, 96, 182, 1, 83, 54, 7, 42, 21, 7, 42, 27, 28, 29, 5, 21, 6, 104]
abbrev dktX0_read_2 : List UInt8 := dkwX0_read_2 ++ dktX0_read_3
def dkwX0_read_1 : List UInt8 := [180, 0, 81, 42, 180, 0, 109, 182, 0, 165, 3, 54, 5, 3, 54, 6, 21, 6, 21, 4, 162, 0, 63, 42]
abbrev dktX0_read_1 : List UInt8 := dkwX0_read_1 ++ dktX0_read_2
def dkwX0_read_0 : List UInt8 := [27, 28, 184, 1, 66, 153, 0, 16, 21, 4, 133, 9, 20, 0, 209, 184, 0, 144, 154, 0, 5, 2, 172, 42]
abbrev dktX0_read_0 : List UInt8 := dkwX0_read_0 ++ dktX0_read_1
theorem dksX0_read_0 : cX0_read.data.toList.drop 0 = dktX0_read_0 := by decide +kernel
theorem dksX0_read_1 : cX0_read.data.toList.drop 24 = dktX0_read_1 := dk_seg dksX0_read_0 24 rfl rfl
theorem dksX0_read_2 : cX0_read.data.toList.drop 48 = dktX0_read_2 := dk_seg dksX0_read_1 24 rfl rfl
theorem dksX0_read_3 : cX0_read.data.toList.drop 72 = dktX0_read_3 := dk_seg dksX0_read_2 24 rfl rfl
theorem dksX0_read_4 : cX0_read.data.toList.drop 95 = dktX0_read_4 := dk_seg dksX0_read_3 23 rfl rfl
theorem dksX0_read_5 : cX0_read.data.toList.drop 118 = dktX0_read_5 := dk_seg dksX0_read_4 23 rfl rfl
theorem dX0_read_0 : decode cX0_read 0 = .ok (.iload_n 1, 1) := dk_27 (dk_at dksX0_read_0 0 rfl rfl)
theorem dX0_read_1 : decode cX0_read 1 = .ok (.iload_n 2, 1) := dk_28 (dk_at dksX0_read_0 1 rfl rfl)
theorem dX0_read_2 : decode cX0_read 2 = .ok (.invokestatic 322, 3) := dk_184 1 66 (dk_at dksX0_read_0 2 rfl rfl)
theorem dX0_read_5 : decode cX0_read 5 = .ok (.ifCond .eq 16, 3) := dk_153 0 16 (dk_at dksX0_read_0 5 rfl rfl)
theorem dX0_read_8 : decode cX0_read 8 = .ok (.iload 4, 2) := dk_21 4 (dk_at dksX0_read_0 8 rfl rfl)
theorem dX0_read_10 : decode cX0_read 10 = .ok (.i2l, 1) := dk_133 (dk_at dksX0_read_0 10 rfl rfl)
theorem dX0_read_11 : decode cX0_read 11 = .ok (.lconst 0, 1) := dk_9 (dk_at dksX0_read_0 11 rfl rfl)
theorem dX0_read_12 : decode cX0_read 12 = .ok (.ldc2_w 209, 3) := dk_20 0 209 (dk_at dksX0_read_0 12 rfl rfl)
theorem dX0_read_15 : decode cX0_read 15 = .ok (.invokestatic 144, 3) := dk_184 0 144 (dk_at dksX0_read_0 15 rfl rfl)
theorem dX0_read_18 : decode cX0_read 18 = .ok (.ifCond .ne 5, 3) := dk_154 0 5 (dk_at dksX0_read_0 18 rfl rfl)
theorem dX0_read_21 : decode cX0_read 21 = .ok (.iconst (-1), 1) := dk_2 (dk_at dksX0_read_0 21 rfl rfl)
theorem dX0_read_22 : decode cX0_read 22 = .ok (.ireturn, 1) := dk_172 (dk_at dksX0_read_0 22 rfl rfl)
theorem dX0_read_23 : decode cX0_read 23 = .ok (.aload_n 0, 1) := dk_42 (dk_at dksX0_read_0 23 rfl rfl)
theorem dX0_read_24 : decode cX0_read 24 = .ok (.getfield 81, 3) := dk_180 0 81 (dk_at dksX0_read_1 0 rfl rfl)
theorem dX0_read_27 : decode cX0_read 27 = .ok (.aload_n 0, 1) := dk_42 (dk_at dksX0_read_1 3 rfl rfl)
theorem dX0_read_28 : decode cX0_read 28 = .ok (.getfield 109, 3) := dk_180 0 109 (dk_at dksX0_read_1 4 rfl rfl)
theorem dX0_read_31 : decode cX0_read 31 = .ok (.invokevirtual 165, 3) := dk_182 0 165 (dk_at dksX0_read_1 7 rfl rfl)
theorem dX0_read_34 : decode cX0_read 34 = .ok (.iconst 0, 1) := dk_3 (dk_at dksX0_read_1 10 rfl rfl)
theorem dX0_read_35 : decode cX0_read 35 = .ok (.istore 5, 2) := dk_54 5 (dk_at dksX0_read_1 11 rfl rfl)
theorem dX0_read_37 : decode cX0_read 37 = .ok (.iconst 0, 1) := dk_3 (dk_at dksX0_read_1 13 rfl rfl)
theorem dX0_read_38 : decode cX0_read 38 = .ok (.istore 6, 2) := dk_54 6 (dk_at dksX0_read_1 14 rfl rfl)
theorem dX0_read_40 : decode cX0_read 40 = .ok (.iload 6, 2) := dk_21 6 (dk_at dksX0_read_1 16 rfl rfl)
theorem dX0_read_42 : decode cX0_read 42 = .ok (.iload 4, 2) := dk_21 4 (dk_at dksX0_read_1 18 rfl rfl)
theorem dX0_read_44 : decode cX0_read 44 = .ok (.if_icmp .ge 63, 3) := dk_162 0 63 (dk_at dksX0_read_1 20 rfl rfl)
theorem dX0_read_47 : decode cX0_read 47 = .ok (.aload_n 0, 1) := dk_42 (dk_at dksX0_read_1 23 rfl rfl)
theorem dX0_read_48 : decode cX0_read 48 = .ok (.iload_n 1, 1) := dk_27 (dk_at dksX0_read_2 0 rfl rfl)
theorem dX0_read_49 : decode cX0_read 49 = .ok (.iload_n 2, 1) := dk_28 (dk_at dksX0_read_2 1 rfl rfl)
theorem dX0_read_50 : decode cX0_read 50 = .ok (.iload_n 3, 1) := dk_29 (dk_at dksX0_read_2 2 rfl rfl)
theorem dX0_read_51 : decode cX0_read 51 = .ok (.iconst 2, 1) := dk_5 (dk_at dksX0_read_2 3 rfl rfl)
theorem dX0_read_52 : decode cX0_read 52 = .ok (.iload 6, 2) := dk_21 6 (dk_at dksX0_read_2 4 rfl rfl)
theorem dX0_read_54 : decode cX0_read 54 = .ok (.imul, 1) := dk_104 (dk_at dksX0_read_2 6 rfl rfl)
theorem dX0_read_55 : decode cX0_read 55 = .ok (.iadd, 1) := dk_96 (dk_at dksX0_read_2 7 rfl rfl)
theorem dX0_read_56 : decode cX0_read 56 = .ok (.invokevirtual 339, 3) := dk_182 1 83 (dk_at dksX0_read_2 8 rfl rfl)
theorem dX0_read_59 : decode cX0_read 59 = .ok (.istore 7, 2) := dk_54 7 (dk_at dksX0_read_2 11 rfl rfl)
theorem dX0_read_61 : decode cX0_read 61 = .ok (.aload_n 0, 1) := dk_42 (dk_at dksX0_read_2 13 rfl rfl)
theorem dX0_read_62 : decode cX0_read 62 = .ok (.iload 7, 2) := dk_21 7 (dk_at dksX0_read_2 14 rfl rfl)
theorem dX0_read_64 : decode cX0_read 64 = .ok (.aload_n 0, 1) := dk_42 (dk_at dksX0_read_2 16 rfl rfl)
theorem dX0_read_65 : decode cX0_read 65 = .ok (.iload_n 1, 1) := dk_27 (dk_at dksX0_read_2 17 rfl rfl)
theorem dX0_read_66 : decode cX0_read 66 = .ok (.iload_n 2, 1) := dk_28 (dk_at dksX0_read_2 18 rfl rfl)
theorem dX0_read_67 : decode cX0_read 67 = .ok (.iload_n 3, 1) := dk_29 (dk_at dksX0_read_2 19 rfl rfl)
theorem dX0_read_68 : decode cX0_read 68 = .ok (.iconst 2, 1) := dk_5 (dk_at dksX0_read_2 20 rfl rfl)
theorem dX0_read_69 : decode cX0_read 69 = .ok (.iload 6, 2) := dk_21 6 (dk_at dksX0_read_2 21 rfl rfl)
theorem dX0_read_71 : decode cX0_read 71 = .ok (.imul, 1) := dk_104 (dk_at dksX0_read_2 23 rfl rfl)
theorem dX0_read_72 : decode cX0_read 72 = .ok (.iadd, 1) := dk_96 (dk_at dksX0_read_3 0 rfl rfl)
theorem dX0_read_73 : decode cX0_read 73 = .ok (.iconst 1, 1) := dk_4 (dk_at dksX0_read_3 1 rfl rfl)
theorem dX0_read_74 : decode cX0_read 74 = .ok (.iadd, 1) := dk_96 (dk_at dksX0_read_3 2 rfl rfl)
theorem dX0_read_75 : decode cX0_read 75 = .ok (.invokevirtual 339, 3) := dk_182 1 83 (dk_at dksX0_read_3 3 rfl rfl)
theorem dX0_read_78 : decode cX0_read 78 = .ok (.invokevirtual 342, 3) := dk_182 1 86 (dk_at dksX0_read_3 6 rfl rfl)
theorem dX0_read_81 : decode cX0_read 81 = .ok (.ifCond .ge 20, 3) := dk_156 0 20 (dk_at dksX0_read_3 9 rfl rfl)
theorem dX0_read_84 : decode cX0_read 84 = .ok (.aload_n 0, 1) := dk_42 (dk_at dksX0_read_3 12 rfl rfl)
theorem dX0_read_85 : decode cX0_read 85 = .ok (.getfield 109, 3) := dk_180 0 109 (dk_at dksX0_read_3 13 rfl rfl)
theorem dX0_read_88 : decode cX0_read 88 = .ok (.aload_n 0, 1) := dk_42 (dk_at dksX0_read_3 16 rfl rfl)
theorem dX0_read_89 : decode cX0_read 89 = .ok (.getfield 81, 3) := dk_180 0 81 (dk_at dksX0_read_3 17 rfl rfl)
theorem dX0_read_92 : decode cX0_read 92 = .ok (.invokevirtual 165, 3) := dk_182 0 165 (dk_at dksX0_read_3 20 rfl rfl)
theorem dX0_read_95 : decode cX0_read 95 = .ok (.bipush (-20), 2) := dk_16 236 (dk_at dksX0_read_4 0 rfl rfl)
theorem dX0_read_97 : decode cX0_read 97 = .ok (.iload 6, 2) := dk_21 6 (dk_at dksX0_read_4 2 rfl rfl)
theorem dX0_read_99 : decode cX0_read 99 = .ok (.isub, 1) := dk_100 (dk_at dksX0_read_4 4 rfl rfl)
theorem dX0_read_100 : decode cX0_read 100 = .ok (.ireturn, 1) := dk_172 (dk_at dksX0_read_4 5 rfl rfl)
theorem dX0_read_101 : decode cX0_read 101 = .ok (.iinc 6 1, 3) := dk_132 6 1 (dk_at dksX0_read_4 6 rfl rfl)
theorem dX0_read_104 : decode cX0_read 104 = .ok (.goto (-64), 3) := dk_167 255 192 (dk_at dksX0_read_4 9 rfl rfl)
theorem dX0_read_107 : decode cX0_read 107 = .ok (.goto 24, 3) := dk_167 0 24 (dk_at dksX0_read_4 12 rfl rfl)
theorem dX0_read_110 : decode cX0_read 110 = .ok (.astore 7, 2) := dk_58 7 (dk_at dksX0_read_4 15 rfl rfl)
theorem dX0_read_112 : decode cX0_read 112 = .ok (.iconst 1, 1) := dk_4 (dk_at dksX0_read_4 17 rfl rfl)
theorem dX0_read_113 : decode cX0_read 113 = .ok (.istore 5, 2) := dk_54 5 (dk_at dksX0_read_4 18 rfl rfl)
theorem dX0_read_115 : decode cX0_read 115 = .ok (.goto 16, 3) := dk_167 0 16 (dk_at dksX0_read_4 20 rfl rfl)
theorem dX0_read_118 : decode cX0_read 118 = .ok (.astore 7, 2) := dk_58 7 (dk_at dksX0_read_5 0 rfl rfl)
theorem dX0_read_120 : decode cX0_read 120 = .ok (.iconst 3, 1) := dk_6 (dk_at dksX0_read_5 2 rfl rfl)
theorem dX0_read_121 : decode cX0_read 121 = .ok (.istore 5, 2) := dk_54 5 (dk_at dksX0_read_5 3 rfl rfl)
theorem dX0_read_123 : decode cX0_read 123 = .ok (.goto 8, 3) := dk_167 0 8 (dk_at dksX0_read_5 5 rfl rfl)
theorem dX0_read_126 : decode cX0_read 126 = .ok (.astore 7, 2) := dk_58 7 (dk_at dksX0_read_5 8 rfl rfl)
theorem dX0_read_128 : decode cX0_read 128 = .ok (.iconst 2, 1) := dk_5 (dk_at dksX0_read_5 10 rfl rfl)
theorem dX0_read_129 : decode cX0_read 129 = .ok (.istore 5, 2) := dk_54 5 (dk_at dksX0_read_5 11 rfl rfl)
theorem dX0_read_131 : decode cX0_read 131 = .ok (.aload_n 0, 1) := dk_42 (dk_at dksX0_read_5 13 rfl rfl)
theorem dX0_read_132 : decode cX0_read 132 = .ok (.iload 5, 2) := dk_21 5 (dk_at dksX0_read_5 14 rfl rfl)
theorem dX0_read_134 : decode cX0_read 134 = .ok (.putfield 347, 3) := dk_181 1 91 (dk_at dksX0_read_5 16 rfl rfl)
theorem dX0_read_137 : decode cX0_read 137 = .ok (.iload 6, 2) := dk_21 6 (dk_at dksX0_read_5 19 rfl rfl)
theorem dX0_read_139 : decode cX0_read 139 = .ok (.ireturn, 1) := dk_172 (dk_at dksX0_read_5 21 rfl rfl)
abbrev cX0_takenOf : ByteArray := prog_1_method_67_code
def yX0_takenOf : MethodName := ⟨RX0, "takenOf", "(III)I"⟩
def dkwX0_takenOf_2 : List UInt8 := [46, 172]
abbrev dktX0_takenOf_2 : List UInt8 := dkwX0_takenOf_2 ++ []
def dkwX0_takenOf_1 : List UInt8 := [167, 0, 25, 28, 4, 160, 0, 13, 25, 4, 192, 1, 76, 29, 53, 167, 0, 10, 25, 4, 192, 1, 78, 29]
abbrev dktX0_takenOf_1 : List UInt8 := dkwX0_takenOf_1 ++ dktX0_takenOf_2
def dkwX0_takenOf_0 : List UInt8 := [42, 180, 0, 137, 27, 50, 180, 1, 69, 58, 4, 28, 154, 0, 13, 25, 4, 192, 1, 75, 29, 51]
abbrev dktX0_takenOf_0 : List UInt8 := dkwX0_takenOf_0 ++ dktX0_takenOf_1
theorem dksX0_takenOf_0 : cX0_takenOf.data.toList.drop 0 = dktX0_takenOf_0 := by decide +kernel
theorem dksX0_takenOf_1 : cX0_takenOf.data.toList.drop 22 = dktX0_takenOf_1 := dk_seg dksX0_takenOf_0 22 rfl rfl
theorem dksX0_takenOf_2 : cX0_takenOf.data.toList.drop 46 = dktX0_takenOf_2 := dk_seg dksX0_takenOf_1 24 rfl rfl
theorem dX0_takenOf_0 : decode cX0_takenOf 0 = .ok (.aload_n 0, 1) := dk_42 (dk_at dksX0_takenOf_0 0 rfl rfl)
theorem dX0_takenOf_1 : decode cX0_takenOf 1 = .ok (.getfield 137, 3) := dk_180 0 137 (dk_at dksX0_takenOf_0 1 rfl rfl)
theorem dX0_takenOf_4 : decode cX0_takenOf 4 = .ok (.iload_n 1, 1) := dk_27 (dk_at dksX0_takenOf_0 4 rfl rfl)
theorem dX0_takenOf_5 : decode cX0_takenOf 5 = .ok (.aaload, 1) := dk_50 (dk_at dksX0_takenOf_0 5 rfl rfl)
theorem dX0_takenOf_6 : decode cX0_takenOf 6 = .ok (.getfield 325, 3) := dk_180 1 69 (dk_at dksX0_takenOf_0 6 rfl rfl)
theorem dX0_takenOf_9 : decode cX0_takenOf 9 = .ok (.astore 4, 2) := dk_58 4 (dk_at dksX0_takenOf_0 9 rfl rfl)
theorem dX0_takenOf_11 : decode cX0_takenOf 11 = .ok (.iload_n 2, 1) := dk_28 (dk_at dksX0_takenOf_0 11 rfl rfl)
theorem dX0_takenOf_12 : decode cX0_takenOf 12 = .ok (.ifCond .ne 13, 3) := dk_154 0 13 (dk_at dksX0_takenOf_0 12 rfl rfl)
theorem dX0_takenOf_15 : decode cX0_takenOf 15 = .ok (.aload 4, 2) := dk_25 4 (dk_at dksX0_takenOf_0 15 rfl rfl)
theorem dX0_takenOf_17 : decode cX0_takenOf 17 = .ok (.checkcast 331, 3) := dk_192 1 75 (dk_at dksX0_takenOf_0 17 rfl rfl)
theorem dX0_takenOf_20 : decode cX0_takenOf 20 = .ok (.iload_n 3, 1) := dk_29 (dk_at dksX0_takenOf_0 20 rfl rfl)
theorem dX0_takenOf_21 : decode cX0_takenOf 21 = .ok (.baload, 1) := dk_51 (dk_at dksX0_takenOf_0 21 rfl rfl)
theorem dX0_takenOf_22 : decode cX0_takenOf 22 = .ok (.goto 25, 3) := dk_167 0 25 (dk_at dksX0_takenOf_1 0 rfl rfl)
theorem dX0_takenOf_25 : decode cX0_takenOf 25 = .ok (.iload_n 2, 1) := dk_28 (dk_at dksX0_takenOf_1 3 rfl rfl)
theorem dX0_takenOf_26 : decode cX0_takenOf 26 = .ok (.iconst 1, 1) := dk_4 (dk_at dksX0_takenOf_1 4 rfl rfl)
theorem dX0_takenOf_27 : decode cX0_takenOf 27 = .ok (.if_icmp .ne 13, 3) := dk_160 0 13 (dk_at dksX0_takenOf_1 5 rfl rfl)
theorem dX0_takenOf_30 : decode cX0_takenOf 30 = .ok (.aload 4, 2) := dk_25 4 (dk_at dksX0_takenOf_1 8 rfl rfl)
theorem dX0_takenOf_32 : decode cX0_takenOf 32 = .ok (.checkcast 332, 3) := dk_192 1 76 (dk_at dksX0_takenOf_1 10 rfl rfl)
theorem dX0_takenOf_35 : decode cX0_takenOf 35 = .ok (.iload_n 3, 1) := dk_29 (dk_at dksX0_takenOf_1 13 rfl rfl)
theorem dX0_takenOf_36 : decode cX0_takenOf 36 = .ok (.saload, 1) := dk_53 (dk_at dksX0_takenOf_1 14 rfl rfl)
theorem dX0_takenOf_37 : decode cX0_takenOf 37 = .ok (.goto 10, 3) := dk_167 0 10 (dk_at dksX0_takenOf_1 15 rfl rfl)
theorem dX0_takenOf_40 : decode cX0_takenOf 40 = .ok (.aload 4, 2) := dk_25 4 (dk_at dksX0_takenOf_1 18 rfl rfl)
theorem dX0_takenOf_42 : decode cX0_takenOf 42 = .ok (.checkcast 334, 3) := dk_192 1 78 (dk_at dksX0_takenOf_1 20 rfl rfl)
theorem dX0_takenOf_45 : decode cX0_takenOf 45 = .ok (.iload_n 3, 1) := dk_29 (dk_at dksX0_takenOf_1 23 rfl rfl)
theorem dX0_takenOf_46 : decode cX0_takenOf 46 = .ok (.iaload, 1) := dk_46 (dk_at dksX0_takenOf_2 0 rfl rfl)
theorem dX0_takenOf_47 : decode cX0_takenOf 47 = .ok (.ireturn, 1) := dk_172 (dk_at dksX0_takenOf_2 1 rfl rfl)
abbrev cX0_torn : ByteArray := prog_1_method_69_code
def yX0_torn : MethodName := ⟨RX0, "torn", "()I"⟩
theorem dX0_torn_0 : decode cX0_torn 0 = .ok (.aload_n 0, 1) := by decide +kernel
theorem dX0_torn_1 : decode cX0_torn 1 = .ok (.getfield 347, 3) := by decide +kernel
theorem dX0_torn_4 : decode cX0_torn 4 = .ok (.ireturn, 1) := by decide +kernel
abbrev cX0_count : ByteArray := prog_1_method_70_code
def yX0_count : MethodName := ⟨RX0, "count", "(I)I"⟩
def dkwX0_count_5 : List UInt8 := [4, 182, 0, 89, 172, 42, 180, 0, 109, 5, 182, 0, 89, 172, 2, 172]
abbrev dktX0_count_5 : List UInt8 := dkwX0_count_5 ++ []
def dkwX0_count_4 : List UInt8 := [42, 180, 0, 168, 172, 42, 180, 0, 171, 184, 1, 94, 172, 42, 180, 0, 148, 172, 29, 172, 42, 180, 0, 109]
abbrev dktX0_count_4 : List UInt8 := dkwX0_count_4 ++ dktX0_count_5
def dkwX0_count_3 : List UInt8 := [170, 0, 0, 0, 75, 0, 0, 0, 0, 0, 0, 0, 5, 0, 0, 0, 37, 0, 0, 0, 42, 0, 0, 0, 50, 0, 0, 0, 55, 0, 0, 0, 57, 0, 0, 0, 66]
abbrev dktX0_count_3 : List UInt8 := dkwX0_count_3 ++ dktX0_count_4
def dkwX0_count_2 : List UInt8 := [153, 0, 11, 44, 192, 1, 78, 190, 167, 0, 5, 16, 252, 62, 27]
abbrev dktX0_count_2 : List UInt8 := dkwX0_count_2 ++ dktX0_count_3
def dkwX0_count_1 : List UInt8 := [167, 0, 35, 44, 193, 1, 76, 153, 0, 11, 44, 192, 1, 76, 190, 167, 0, 20, 44, 193, 1, 78]
abbrev dktX0_count_1 : List UInt8 := dkwX0_count_1 ++ dktX0_count_2
def dkwX0_count_0 : List UInt8 := [42, 180, 0, 137, 3, 50, 180, 1, 69, 77, 44, 193, 1, 75, 153, 0, 11, 44, 192, 1, 75, 190]
abbrev dktX0_count_0 : List UInt8 := dkwX0_count_0 ++ dktX0_count_1
theorem dksX0_count_0 : cX0_count.data.toList.drop 0 = dktX0_count_0 := by decide +kernel
theorem dksX0_count_1 : cX0_count.data.toList.drop 22 = dktX0_count_1 := dk_seg dksX0_count_0 22 rfl rfl
theorem dksX0_count_2 : cX0_count.data.toList.drop 44 = dktX0_count_2 := dk_seg dksX0_count_1 22 rfl rfl
theorem dksX0_count_3 : cX0_count.data.toList.drop 59 = dktX0_count_3 := dk_seg dksX0_count_2 15 rfl rfl
theorem dksX0_count_4 : cX0_count.data.toList.drop 96 = dktX0_count_4 := dk_seg dksX0_count_3 37 rfl rfl
theorem dksX0_count_5 : cX0_count.data.toList.drop 120 = dktX0_count_5 := dk_seg dksX0_count_4 24 rfl rfl
theorem dX0_count_0 : decode cX0_count 0 = .ok (.aload_n 0, 1) := dk_42 (dk_at dksX0_count_0 0 rfl rfl)
theorem dX0_count_1 : decode cX0_count 1 = .ok (.getfield 137, 3) := dk_180 0 137 (dk_at dksX0_count_0 1 rfl rfl)
theorem dX0_count_4 : decode cX0_count 4 = .ok (.iconst 0, 1) := dk_3 (dk_at dksX0_count_0 4 rfl rfl)
theorem dX0_count_5 : decode cX0_count 5 = .ok (.aaload, 1) := dk_50 (dk_at dksX0_count_0 5 rfl rfl)
theorem dX0_count_6 : decode cX0_count 6 = .ok (.getfield 325, 3) := dk_180 1 69 (dk_at dksX0_count_0 6 rfl rfl)
theorem dX0_count_9 : decode cX0_count 9 = .ok (.astore_n 2, 1) := dk_77 (dk_at dksX0_count_0 9 rfl rfl)
theorem dX0_count_10 : decode cX0_count 10 = .ok (.aload_n 2, 1) := dk_44 (dk_at dksX0_count_0 10 rfl rfl)
theorem dX0_count_11 : decode cX0_count 11 = .ok (.instanceof 331, 3) := dk_193 1 75 (dk_at dksX0_count_0 11 rfl rfl)
theorem dX0_count_14 : decode cX0_count 14 = .ok (.ifCond .eq 11, 3) := dk_153 0 11 (dk_at dksX0_count_0 14 rfl rfl)
theorem dX0_count_17 : decode cX0_count 17 = .ok (.aload_n 2, 1) := dk_44 (dk_at dksX0_count_0 17 rfl rfl)
theorem dX0_count_18 : decode cX0_count 18 = .ok (.checkcast 331, 3) := dk_192 1 75 (dk_at dksX0_count_0 18 rfl rfl)
theorem dX0_count_21 : decode cX0_count 21 = .ok (.arraylength, 1) := dk_190 (dk_at dksX0_count_0 21 rfl rfl)
theorem dX0_count_22 : decode cX0_count 22 = .ok (.goto 35, 3) := dk_167 0 35 (dk_at dksX0_count_1 0 rfl rfl)
theorem dX0_count_25 : decode cX0_count 25 = .ok (.aload_n 2, 1) := dk_44 (dk_at dksX0_count_1 3 rfl rfl)
theorem dX0_count_26 : decode cX0_count 26 = .ok (.instanceof 332, 3) := dk_193 1 76 (dk_at dksX0_count_1 4 rfl rfl)
theorem dX0_count_29 : decode cX0_count 29 = .ok (.ifCond .eq 11, 3) := dk_153 0 11 (dk_at dksX0_count_1 7 rfl rfl)
theorem dX0_count_32 : decode cX0_count 32 = .ok (.aload_n 2, 1) := dk_44 (dk_at dksX0_count_1 10 rfl rfl)
theorem dX0_count_33 : decode cX0_count 33 = .ok (.checkcast 332, 3) := dk_192 1 76 (dk_at dksX0_count_1 11 rfl rfl)
theorem dX0_count_36 : decode cX0_count 36 = .ok (.arraylength, 1) := dk_190 (dk_at dksX0_count_1 14 rfl rfl)
theorem dX0_count_37 : decode cX0_count 37 = .ok (.goto 20, 3) := dk_167 0 20 (dk_at dksX0_count_1 15 rfl rfl)
theorem dX0_count_40 : decode cX0_count 40 = .ok (.aload_n 2, 1) := dk_44 (dk_at dksX0_count_1 18 rfl rfl)
theorem dX0_count_41 : decode cX0_count 41 = .ok (.instanceof 334, 3) := dk_193 1 78 (dk_at dksX0_count_1 19 rfl rfl)
theorem dX0_count_44 : decode cX0_count 44 = .ok (.ifCond .eq 11, 3) := dk_153 0 11 (dk_at dksX0_count_2 0 rfl rfl)
theorem dX0_count_47 : decode cX0_count 47 = .ok (.aload_n 2, 1) := dk_44 (dk_at dksX0_count_2 3 rfl rfl)
theorem dX0_count_48 : decode cX0_count 48 = .ok (.checkcast 334, 3) := dk_192 1 78 (dk_at dksX0_count_2 4 rfl rfl)
theorem dX0_count_51 : decode cX0_count 51 = .ok (.arraylength, 1) := dk_190 (dk_at dksX0_count_2 7 rfl rfl)
theorem dX0_count_52 : decode cX0_count 52 = .ok (.goto 5, 3) := dk_167 0 5 (dk_at dksX0_count_2 8 rfl rfl)
theorem dX0_count_55 : decode cX0_count 55 = .ok (.bipush (-4), 2) := dk_16 252 (dk_at dksX0_count_2 11 rfl rfl)
theorem dX0_count_57 : decode cX0_count 57 = .ok (.istore_n 3, 1) := dk_62 (dk_at dksX0_count_2 13 rfl rfl)
theorem dX0_count_58 : decode cX0_count 58 = .ok (.iload_n 1, 1) := dk_27 (dk_at dksX0_count_2 14 rfl rfl)
theorem dX0_count_59 : decode cX0_count 59 = .ok (.tableswitch 75 0 5 #[37, 42, 50, 55, 57, 66], 37) := by decide +kernel
theorem dX0_count_96 : decode cX0_count 96 = .ok (.aload_n 0, 1) := dk_42 (dk_at dksX0_count_4 0 rfl rfl)
theorem dX0_count_97 : decode cX0_count 97 = .ok (.getfield 168, 3) := dk_180 0 168 (dk_at dksX0_count_4 1 rfl rfl)
theorem dX0_count_100 : decode cX0_count 100 = .ok (.ireturn, 1) := dk_172 (dk_at dksX0_count_4 4 rfl rfl)
theorem dX0_count_101 : decode cX0_count 101 = .ok (.aload_n 0, 1) := dk_42 (dk_at dksX0_count_4 5 rfl rfl)
theorem dX0_count_102 : decode cX0_count 102 = .ok (.getfield 171, 3) := dk_180 0 171 (dk_at dksX0_count_4 6 rfl rfl)
theorem dX0_count_105 : decode cX0_count 105 = .ok (.invokestatic 350, 3) := dk_184 1 94 (dk_at dksX0_count_4 9 rfl rfl)
theorem dX0_count_108 : decode cX0_count 108 = .ok (.ireturn, 1) := dk_172 (dk_at dksX0_count_4 12 rfl rfl)
theorem dX0_count_109 : decode cX0_count 109 = .ok (.aload_n 0, 1) := dk_42 (dk_at dksX0_count_4 13 rfl rfl)
theorem dX0_count_110 : decode cX0_count 110 = .ok (.getfield 148, 3) := dk_180 0 148 (dk_at dksX0_count_4 14 rfl rfl)
theorem dX0_count_113 : decode cX0_count 113 = .ok (.ireturn, 1) := dk_172 (dk_at dksX0_count_4 17 rfl rfl)
theorem dX0_count_114 : decode cX0_count 114 = .ok (.iload_n 3, 1) := dk_29 (dk_at dksX0_count_4 18 rfl rfl)
theorem dX0_count_115 : decode cX0_count 115 = .ok (.ireturn, 1) := dk_172 (dk_at dksX0_count_4 19 rfl rfl)
theorem dX0_count_116 : decode cX0_count 116 = .ok (.aload_n 0, 1) := dk_42 (dk_at dksX0_count_4 20 rfl rfl)
theorem dX0_count_117 : decode cX0_count 117 = .ok (.getfield 109, 3) := dk_180 0 109 (dk_at dksX0_count_4 21 rfl rfl)
theorem dX0_count_120 : decode cX0_count 120 = .ok (.iconst 1, 1) := dk_4 (dk_at dksX0_count_5 0 rfl rfl)
theorem dX0_count_121 : decode cX0_count 121 = .ok (.invokevirtual 89, 3) := dk_182 0 89 (dk_at dksX0_count_5 1 rfl rfl)
theorem dX0_count_124 : decode cX0_count 124 = .ok (.ireturn, 1) := dk_172 (dk_at dksX0_count_5 4 rfl rfl)
theorem dX0_count_125 : decode cX0_count 125 = .ok (.aload_n 0, 1) := dk_42 (dk_at dksX0_count_5 5 rfl rfl)
theorem dX0_count_126 : decode cX0_count 126 = .ok (.getfield 109, 3) := dk_180 0 109 (dk_at dksX0_count_5 6 rfl rfl)
theorem dX0_count_129 : decode cX0_count 129 = .ok (.iconst 2, 1) := dk_5 (dk_at dksX0_count_5 9 rfl rfl)
theorem dX0_count_130 : decode cX0_count 130 = .ok (.invokevirtual 89, 3) := dk_182 0 89 (dk_at dksX0_count_5 10 rfl rfl)
theorem dX0_count_133 : decode cX0_count 133 = .ok (.ireturn, 1) := dk_172 (dk_at dksX0_count_5 13 rfl rfl)
theorem dX0_count_134 : decode cX0_count 134 = .ok (.iconst (-1), 1) := dk_2 (dk_at dksX0_count_5 14 rfl rfl)
theorem dX0_count_135 : decode cX0_count 135 = .ok (.ireturn, 1) := dk_172 (dk_at dksX0_count_5 15 rfl rfl)
theorem q64 : (Jvm.Cond.initialized "LoseLeague") ∈ lw_all := lw_g (lw_at lw_m1 1 rfl) rfl
theorem q90 : (Jvm.Cond.instantiable "LoseLeague" (25 : Nat)) ∈ lw_all := lw_g (lw_at lw_m1 27 rfl) rfl
theorem q92 : (Jvm.Cond.instanceMethod ({ cls := "LoseLeague", name := "<init>", desc := "()V" } : Jvm.MethodName)) ∈ lw_all := lw_g (lw_at lw_m1 29 rfl) rfl
theorem q93 : (Jvm.Cond.code ({ cls := "LoseLeague", name := "<init>", desc := "()V" } : Jvm.MethodName) prog_1_method_11_code (2 : Nat) (Option.none : Option Jvm.ClassFile.FieldType)) ∈ lw_all := lw_g (lw_at lw_m1 30 rfl) rfl
theorem q94 : (Jvm.Cond.methodLink "LoseLeague" (93 : Nat) ({ cls := "java/lang/Object", name := "<init>", desc := "()V" } : Jvm.MethodName)) ∈ lw_all := lw_g (lw_at lw_m1 31 rfl) rfl
theorem q97 : (Jvm.Cond.classLink "LoseLeague" (14 : Nat) "LoseLeague$Plain") ∈ lw_all := lw_g (lw_at lw_m1 34 rfl) rfl
theorem q100 : (Jvm.Cond.methodLinkNest "LoseLeague" (98 : Nat) ({ cls := "LoseLeague$Plain", name := "<init>", desc := "()V" } : Jvm.MethodName) "LoseLeague") ∈ lw_tbl := lw_at lw_m1 37 rfl
theorem q105 : (Jvm.Cond.classLink "LoseLeague" (99 : Nat) "LoseLeague$Proud") ∈ lw_all := lw_g (lw_at lw_m1 42 rfl) rfl
theorem q107 : (Jvm.Cond.methodLinkNest "LoseLeague" (101 : Nat) ({ cls := "LoseLeague$Proud", name := "<init>", desc := "()V" } : Jvm.MethodName) "LoseLeague") ∈ lw_tbl := lw_at lw_m1 44 rfl
theorem q112 : (Jvm.Cond.classLink "LoseLeague" (102 : Nat) "LoseLeague$Wise") ∈ lw_all := lw_g (lw_at lw_m1 49 rfl) rfl
theorem q114 : (Jvm.Cond.methodLinkNest "LoseLeague" (104 : Nat) ({ cls := "LoseLeague$Wise", name := "<init>", desc := "()V" } : Jvm.MethodName) "LoseLeague") ∈ lw_tbl := lw_at lw_m1 51 rfl
theorem q119 : (Jvm.Cond.classLink "LoseLeague" (105 : Nat) "LoseLeague$Careless") ∈ lw_all := lw_g (lw_at lw_m1 56 rfl) rfl
theorem q121 : (Jvm.Cond.methodLinkNest "LoseLeague" (107 : Nat) ({ cls := "LoseLeague$Careless", name := "<init>", desc := "()V" } : Jvm.MethodName) "LoseLeague") ∈ lw_tbl := lw_at lw_m1 58 rfl
theorem q126 : (Jvm.Cond.classLink "LoseLeague" (8 : Nat) "LoseLeague$League") ∈ lw_all := lw_g (lw_at lw_m1 63 rfl) rfl
theorem q128 : (Jvm.Cond.methodLinkNest "LoseLeague" (108 : Nat) ({ cls := "LoseLeague$League", name := "<init>", desc := "()V" } : Jvm.MethodName) "LoseLeague") ∈ lw_tbl := lw_at lw_m1 65 rfl
theorem q134 : (Jvm.Cond.fieldLinkNest "LoseLeague" (182 : Nat) "LoseLeague$League" "towns" "I" "LoseLeague") ∈ lw_tbl := lw_at lw_m1 71 rfl
theorem q137 : (Jvm.Cond.fieldLinkNest "LoseLeague" (46 : Nat) "LoseLeague$League" "fixtures" "I" "LoseLeague") ∈ lw_tbl := lw_at lw_m1 74 rfl
theorem q140 : (Jvm.Cond.fieldLinkNest "LoseLeague" (62 : Nat) "LoseLeague$League" "fixture" "[B" "LoseLeague") ∈ lw_tbl := lw_at lw_m1 77 rfl
theorem q142 : (Jvm.Cond.fieldLinkNest "LoseLeague" (56 : Nat) "LoseLeague$League" "week" "I" "LoseLeague") ∈ lw_tbl := lw_at lw_m1 79 rfl
theorem q144 : (Jvm.Cond.fieldLinkNest "LoseLeague" (59 : Nat) "LoseLeague$League" "off" "I" "LoseLeague") ∈ lw_tbl := lw_at lw_m1 81 rfl
theorem q160 : (Jvm.Cond.classLink "LoseLeague" (135 : Nat) "LoseLeague$Sheet") ∈ lw_all := lw_g (lw_at lw_m1 97 rfl) rfl
theorem q163 : (Jvm.Cond.methodLinkNest "LoseLeague" (141 : Nat) ({ cls := "LoseLeague$Sheet", name := "<init>", desc := "()V" } : Jvm.MethodName) "LoseLeague") ∈ lw_tbl := lw_at lw_m1 100 rfl
theorem q167 : (Jvm.Cond.fieldLinkNest "LoseLeague" (325 : Nat) "LoseLeague$Sheet" "cells" "Ljava/lang/Object;" "LoseLeague") ∈ lw_tbl := lw_at lw_m1 104 rfl
theorem q172 : (Jvm.Cond.fieldLink "LoseLeague" (1 : Nat) "LoseLeague" "kinds" "[LLoseLeague$Plain;") ∈ lw_all := lw_g (lw_at lw_m1 109 rfl) rfl
theorem q173 : (Jvm.Cond.fieldLink "LoseLeague" (109 : Nat) "LoseLeague" "now" "LLoseLeague$League;") ∈ lw_all := lw_g (lw_at lw_m1 110 rfl) rfl
theorem q174 : (Jvm.Cond.fieldLink "LoseLeague" (81 : Nat) "LoseLeague" "tried" "LLoseLeague$League;") ∈ lw_all := lw_g (lw_at lw_m1 111 rfl) rfl
theorem q175 : (Jvm.Cond.fieldLink "LoseLeague" (112 : Nat) "LoseLeague" "images" "[LLoseLeague$League;") ∈ lw_all := lw_g (lw_at lw_m1 112 rfl) rfl
theorem q176 : (Jvm.Cond.fieldLink "LoseLeague" (171 : Nat) "LoseLeague" "kept" "I") ∈ lw_all := lw_g (lw_at lw_m1 113 rfl) rfl
theorem q177 : (Jvm.Cond.fieldLink "LoseLeague" (116 : Nat) "LoseLeague" "seen" "[B") ∈ lw_all := lw_g (lw_at lw_m1 114 rfl) rfl
theorem q178 : (Jvm.Cond.fieldLink "LoseLeague" (168 : Nat) "LoseLeague" "seenMany" "I") ∈ lw_all := lw_g (lw_at lw_m1 115 rfl) rfl
theorem q179 : (Jvm.Cond.fieldLink "LoseLeague" (21 : Nat) "LoseLeague" "lost" "I") ∈ lw_all := lw_g (lw_at lw_m1 116 rfl) rfl
theorem q180 : (Jvm.Cond.fieldLink "LoseLeague" (25 : Nat) "LoseLeague" "draws" "I") ∈ lw_all := lw_g (lw_at lw_m1 117 rfl) rfl
theorem q181 : (Jvm.Cond.fieldLink "LoseLeague" (28 : Nat) "LoseLeague" "losers" "I") ∈ lw_all := lw_g (lw_at lw_m1 118 rfl) rfl
theorem q182 : (Jvm.Cond.fieldLink "LoseLeague" (31 : Nat) "LoseLeague" "latest" "I") ∈ lw_all := lw_g (lw_at lw_m1 119 rfl) rfl
theorem q184 : (Jvm.Cond.fieldLink "LoseLeague" (119 : Nat) "LoseLeague" "tape" "[B") ∈ lw_all := lw_g (lw_at lw_m1 121 rfl) rfl
theorem q185 : (Jvm.Cond.fieldLink "LoseLeague" (148 : Nat) "LoseLeague" "taped" "I") ∈ lw_all := lw_g (lw_at lw_m1 122 rfl) rfl
theorem q186 : (Jvm.Cond.fieldLink "LoseLeague" (151 : Nat) "LoseLeague" "fault" "I") ∈ lw_all := lw_g (lw_at lw_m1 123 rfl) rfl
theorem q187 : (Jvm.Cond.fieldLink "LoseLeague" (230 : Nat) "LoseLeague" "found" "I") ∈ lw_all := lw_g (lw_at lw_m1 124 rfl) rfl
theorem q188 : (Jvm.Cond.fieldLink "LoseLeague" (233 : Nat) "LoseLeague" "foundMuch" "I") ∈ lw_all := lw_g (lw_at lw_m1 125 rfl) rfl
theorem q189 : (Jvm.Cond.fieldLink "LoseLeague" (122 : Nat) "LoseLeague" "row" "[I") ∈ lw_all := lw_g (lw_at lw_m1 126 rfl) rfl
theorem q190 : (Jvm.Cond.fieldLink "LoseLeague" (126 : Nat) "LoseLeague" "bestRow" "[I") ∈ lw_all := lw_g (lw_at lw_m1 127 rfl) rfl
theorem q191 : (Jvm.Cond.fieldLink "LoseLeague" (284 : Nat) "LoseLeague" "loseSum" "J") ∈ lw_all := lw_g (lw_at lw_m1 128 rfl) rfl
theorem q192 : (Jvm.Cond.fieldLink "LoseLeague" (288 : Nat) "LoseLeague" "owedSum" "J") ∈ lw_all := lw_g (lw_at lw_m1 129 rfl) rfl
theorem q193 : (Jvm.Cond.fieldLink "LoseLeague" (291 : Nat) "LoseLeague" "allWays" "J") ∈ lw_all := lw_g (lw_at lw_m1 130 rfl) rfl
theorem q194 : (Jvm.Cond.fieldLink "LoseLeague" (129 : Nat) "LoseLeague" "losersBy" "[B") ∈ lw_all := lw_g (lw_at lw_m1 131 rfl) rfl
theorem q195 : (Jvm.Cond.fieldLink "LoseLeague" (132 : Nat) "LoseLeague" "byStrength" "[B") ∈ lw_all := lw_g (lw_at lw_m1 132 rfl) rfl
theorem q196 : (Jvm.Cond.fieldLink "LoseLeague" (137 : Nat) "LoseLeague" "sheets" "[LLoseLeague$Sheet;") ∈ lw_all := lw_g (lw_at lw_m1 133 rfl) rfl
theorem q197 : (Jvm.Cond.fieldLink "LoseLeague" (347 : Nat) "LoseLeague" "torn" "I") ∈ lw_all := lw_g (lw_at lw_m1 134 rfl) rfl
theorem q198 : (Jvm.Cond.laysFinal "LoseLeague" "LoseLeague" "kinds" "[LLoseLeague$Plain;") ∈ lw_all := lw_g (lw_at lw_m1 135 rfl) rfl
theorem q199 : (Jvm.Cond.soleField "LoseLeague" "kinds") ∈ lw_all := lw_g (lw_at lw_m1 136 rfl) rfl
theorem q200 : (Jvm.Cond.laysFinal "LoseLeague" "LoseLeague" "now" "LLoseLeague$League;") ∈ lw_all := lw_g (lw_at lw_m1 137 rfl) rfl
theorem q201 : (Jvm.Cond.soleField "LoseLeague" "now") ∈ lw_all := lw_g (lw_at lw_m1 138 rfl) rfl
theorem q202 : (Jvm.Cond.laysFinal "LoseLeague" "LoseLeague" "tried" "LLoseLeague$League;") ∈ lw_all := lw_g (lw_at lw_m1 139 rfl) rfl
theorem q203 : (Jvm.Cond.soleField "LoseLeague" "tried") ∈ lw_all := lw_g (lw_at lw_m1 140 rfl) rfl
theorem q204 : (Jvm.Cond.laysFinal "LoseLeague" "LoseLeague" "images" "[LLoseLeague$League;") ∈ lw_all := lw_g (lw_at lw_m1 141 rfl) rfl
theorem q205 : (Jvm.Cond.soleField "LoseLeague" "images") ∈ lw_all := lw_g (lw_at lw_m1 142 rfl) rfl
theorem q206 : (Jvm.Cond.lays "LoseLeague" "LoseLeague" "kept" "I") ∈ lw_all := lw_g (lw_at lw_m1 143 rfl) rfl
theorem q207 : (Jvm.Cond.soleField "LoseLeague" "kept") ∈ lw_all := lw_g (lw_at lw_m1 144 rfl) rfl
theorem q208 : (Jvm.Cond.laysFinal "LoseLeague" "LoseLeague" "seen" "[B") ∈ lw_all := lw_g (lw_at lw_m1 145 rfl) rfl
theorem q209 : (Jvm.Cond.soleField "LoseLeague" "seen") ∈ lw_all := lw_g (lw_at lw_m1 146 rfl) rfl
theorem q210 : (Jvm.Cond.lays "LoseLeague" "LoseLeague" "seenMany" "I") ∈ lw_all := lw_g (lw_at lw_m1 147 rfl) rfl
theorem q211 : (Jvm.Cond.soleField "LoseLeague" "seenMany") ∈ lw_all := lw_g (lw_at lw_m1 148 rfl) rfl
theorem q212 : (Jvm.Cond.lays "LoseLeague" "LoseLeague" "lost" "I") ∈ lw_all := lw_g (lw_at lw_m1 149 rfl) rfl
theorem q213 : (Jvm.Cond.soleField "LoseLeague" "lost") ∈ lw_all := lw_g (lw_at lw_m1 150 rfl) rfl
theorem q214 : (Jvm.Cond.lays "LoseLeague" "LoseLeague" "draws" "I") ∈ lw_all := lw_g (lw_at lw_m1 151 rfl) rfl
theorem q215 : (Jvm.Cond.soleField "LoseLeague" "draws") ∈ lw_all := lw_g (lw_at lw_m1 152 rfl) rfl
theorem q216 : (Jvm.Cond.lays "LoseLeague" "LoseLeague" "losers" "I") ∈ lw_all := lw_g (lw_at lw_m1 153 rfl) rfl
theorem q217 : (Jvm.Cond.soleField "LoseLeague" "losers") ∈ lw_all := lw_g (lw_at lw_m1 154 rfl) rfl
theorem q218 : (Jvm.Cond.lays "LoseLeague" "LoseLeague" "latest" "I") ∈ lw_all := lw_g (lw_at lw_m1 155 rfl) rfl
theorem q219 : (Jvm.Cond.soleField "LoseLeague" "latest") ∈ lw_all := lw_g (lw_at lw_m1 156 rfl) rfl
theorem q220 : (Jvm.Cond.laysFinal "LoseLeague" "LoseLeague" "tape" "[B") ∈ lw_all := lw_g (lw_at lw_m1 157 rfl) rfl
theorem q221 : (Jvm.Cond.soleField "LoseLeague" "tape") ∈ lw_all := lw_g (lw_at lw_m1 158 rfl) rfl
theorem q222 : (Jvm.Cond.lays "LoseLeague" "LoseLeague" "taped" "I") ∈ lw_all := lw_g (lw_at lw_m1 159 rfl) rfl
theorem q223 : (Jvm.Cond.soleField "LoseLeague" "taped") ∈ lw_all := lw_g (lw_at lw_m1 160 rfl) rfl
theorem q224 : (Jvm.Cond.lays "LoseLeague" "LoseLeague" "fault" "I") ∈ lw_all := lw_g (lw_at lw_m1 161 rfl) rfl
theorem q225 : (Jvm.Cond.soleField "LoseLeague" "fault") ∈ lw_all := lw_g (lw_at lw_m1 162 rfl) rfl
theorem q226 : (Jvm.Cond.lays "LoseLeague" "LoseLeague" "found" "I") ∈ lw_all := lw_g (lw_at lw_m1 163 rfl) rfl
theorem q227 : (Jvm.Cond.soleField "LoseLeague" "found") ∈ lw_all := lw_g (lw_at lw_m1 164 rfl) rfl
theorem q228 : (Jvm.Cond.lays "LoseLeague" "LoseLeague" "foundMuch" "I") ∈ lw_all := lw_g (lw_at lw_m1 165 rfl) rfl
theorem q229 : (Jvm.Cond.soleField "LoseLeague" "foundMuch") ∈ lw_all := lw_g (lw_at lw_m1 166 rfl) rfl
theorem q230 : (Jvm.Cond.laysFinal "LoseLeague" "LoseLeague" "row" "[I") ∈ lw_all := lw_g (lw_at lw_m1 167 rfl) rfl
theorem q231 : (Jvm.Cond.soleField "LoseLeague" "row") ∈ lw_all := lw_g (lw_at lw_m1 168 rfl) rfl
theorem q232 : (Jvm.Cond.laysFinal "LoseLeague" "LoseLeague" "bestRow" "[I") ∈ lw_all := lw_g (lw_at lw_m1 169 rfl) rfl
theorem q233 : (Jvm.Cond.soleField "LoseLeague" "bestRow") ∈ lw_all := lw_g (lw_at lw_m1 170 rfl) rfl
theorem q234 : (Jvm.Cond.lays "LoseLeague" "LoseLeague" "loseSum" "J") ∈ lw_all := lw_g (lw_at lw_m1 171 rfl) rfl
theorem q235 : (Jvm.Cond.soleField "LoseLeague" "loseSum") ∈ lw_all := lw_g (lw_at lw_m1 172 rfl) rfl
theorem q236 : (Jvm.Cond.lays "LoseLeague" "LoseLeague" "owedSum" "J") ∈ lw_all := lw_g (lw_at lw_m1 173 rfl) rfl
theorem q237 : (Jvm.Cond.soleField "LoseLeague" "owedSum") ∈ lw_all := lw_g (lw_at lw_m1 174 rfl) rfl
theorem q238 : (Jvm.Cond.lays "LoseLeague" "LoseLeague" "allWays" "J") ∈ lw_all := lw_g (lw_at lw_m1 175 rfl) rfl
theorem q239 : (Jvm.Cond.soleField "LoseLeague" "allWays") ∈ lw_all := lw_g (lw_at lw_m1 176 rfl) rfl
theorem q240 : (Jvm.Cond.laysFinal "LoseLeague" "LoseLeague" "losersBy" "[B") ∈ lw_all := lw_g (lw_at lw_m1 177 rfl) rfl
theorem q241 : (Jvm.Cond.soleField "LoseLeague" "losersBy") ∈ lw_all := lw_g (lw_at lw_m1 178 rfl) rfl
theorem q242 : (Jvm.Cond.laysFinal "LoseLeague" "LoseLeague" "byStrength" "[B") ∈ lw_all := lw_g (lw_at lw_m1 179 rfl) rfl
theorem q243 : (Jvm.Cond.soleField "LoseLeague" "byStrength") ∈ lw_all := lw_g (lw_at lw_m1 180 rfl) rfl
theorem q244 : (Jvm.Cond.laysFinal "LoseLeague" "LoseLeague" "sheets" "[LLoseLeague$Sheet;") ∈ lw_all := lw_g (lw_at lw_m1 181 rfl) rfl
theorem q245 : (Jvm.Cond.soleField "LoseLeague" "sheets") ∈ lw_all := lw_g (lw_at lw_m1 182 rfl) rfl
theorem q246 : (Jvm.Cond.lays "LoseLeague" "LoseLeague" "torn" "I") ∈ lw_all := lw_g (lw_at lw_m1 183 rfl) rfl
theorem q247 : (Jvm.Cond.soleField "LoseLeague" "torn") ∈ lw_all := lw_g (lw_at lw_m1 184 rfl) rfl
theorem q248 : (Jvm.Cond.superclass "LoseLeague" "java/lang/Object") ∈ lw_all := lw_g (lw_at lw_m1 185 rfl) rfl
theorem q250 : (Jvm.Cond.instanceMethod ({ cls := "LoseLeague", name := "feed", desc := "(I)I" } : Jvm.MethodName)) ∈ lw_all := lw_g (lw_at lw_m1 187 rfl) rfl
theorem q251 : (Jvm.Cond.selects "LoseLeague" ({ cls := "LoseLeague", name := "feed", desc := "(I)I" } : Jvm.MethodName) ({ cls := "LoseLeague", name := "feed", desc := "(I)I" } : Jvm.MethodName)) ∈ lw_all := lw_g (lw_at lw_m1 188 rfl) rfl
theorem q252 : (Jvm.Cond.code ({ cls := "LoseLeague", name := "feed", desc := "(I)I" } : Jvm.MethodName) prog_1_method_12_code (2 : Nat) (Option.some Jvm.ClassFile.FieldType.int)) ∈ lw_all := lw_g (lw_at lw_m1 189 rfl) rfl
theorem q253 : (Jvm.Cond.constantLong "LoseLeague" (142 : Nat) (127 : Int64)) ∈ lw_all := lw_g (lw_at lw_m1 190 rfl) rfl
theorem q254 : (Jvm.Cond.methodLink "LoseLeague" (144 : Nat) ({ cls := "LoseLeague", name := "in", desc := "(JJJ)Z" } : Jvm.MethodName)) ∈ lw_all := lw_g (lw_at lw_m1 191 rfl) rfl
theorem q255 : (Jvm.Cond.static ({ cls := "LoseLeague", name := "in", desc := "(JJJ)Z" } : Jvm.MethodName)) ∈ lw_all := lw_g (lw_at lw_m1 192 rfl) rfl
theorem q256 : (Jvm.Cond.code ({ cls := "LoseLeague", name := "in", desc := "(JJJ)Z" } : Jvm.MethodName) prog_1_method_1_code (6 : Nat) (Option.some Jvm.ClassFile.FieldType.boolean)) ∈ lw_all := lw_g (lw_at lw_m1 193 rfl) rfl
theorem q258 : (Jvm.Cond.instanceMethod ({ cls := "LoseLeague", name := "end", desc := "(I)I" } : Jvm.MethodName)) ∈ lw_all := lw_g (lw_at lw_m1 195 rfl) rfl
theorem q259 : (Jvm.Cond.selects "LoseLeague" ({ cls := "LoseLeague", name := "end", desc := "(I)I" } : Jvm.MethodName) ({ cls := "LoseLeague", name := "end", desc := "(I)I" } : Jvm.MethodName)) ∈ lw_all := lw_g (lw_at lw_m1 196 rfl) rfl
theorem q260 : (Jvm.Cond.code ({ cls := "LoseLeague", name := "end", desc := "(I)I" } : Jvm.MethodName) prog_1_method_13_code (3 : Nat) (Option.some Jvm.ClassFile.FieldType.int)) ∈ lw_all := lw_g (lw_at lw_m1 197 rfl) rfl
theorem q262 : (Jvm.Cond.instanceMethod ({ cls := "LoseLeague", name := "text", desc := "()I" } : Jvm.MethodName)) ∈ lw_all := lw_g (lw_at lw_m1 199 rfl) rfl
theorem q263 : (Jvm.Cond.selects "LoseLeague" ({ cls := "LoseLeague", name := "text", desc := "()I" } : Jvm.MethodName) ({ cls := "LoseLeague", name := "text", desc := "()I" } : Jvm.MethodName)) ∈ lw_all := lw_g (lw_at lw_m1 200 rfl) rfl
theorem q264 : (Jvm.Cond.codeWith ({ cls := "LoseLeague", name := "text", desc := "()I" } : Jvm.MethodName) prog_1_method_14_code (4 : Nat) (Option.some Jvm.ClassFile.FieldType.int) [((15 : Nat), (52 : Nat), (53 : Nat), (174 : Nat))]) ∈ lw_all := lw_g (lw_at lw_m1 201 rfl) rfl
theorem q265 : (Jvm.Cond.classLink "LoseLeague" (174 : Nat) "LoseLeague$Fault") ∈ lw_all := lw_g (lw_at lw_m1 202 rfl) rfl
theorem q266 : (Jvm.Cond.classLink "LoseLeague" (154 : Nat) "LoseLeague$Reader") ∈ lw_all := lw_g (lw_at lw_m1 203 rfl) rfl
theorem q268 : (Jvm.Cond.methodLink "LoseLeague" (156 : Nat) ({ cls := "LoseLeague$Reader", name := "<init>", desc := "(LLoseLeague;I)V" } : Jvm.MethodName)) ∈ lw_all := lw_g (lw_at lw_m1 205 rfl) rfl
theorem q350 : (Jvm.Cond.fieldLinkNest "LoseLeague" (176 : Nat) "LoseLeague$Fault" "code" "I" "LoseLeague") ∈ lw_tbl := lw_at lw_m2 47 rfl
theorem q352 : (Jvm.Cond.fieldLinkNest "LoseLeague" (179 : Nat) "LoseLeague$Fault" "place" "I" "LoseLeague") ∈ lw_tbl := lw_at lw_m2 49 rfl
theorem q372 : (Jvm.Cond.fieldLinkNest "LoseLeague" (162 : Nat) "LoseLeague$Reader" "made" "LLoseLeague$League;" "LoseLeague") ∈ lw_tbl := lw_at lw_m2 69 rfl
theorem q396 : (Jvm.Cond.methodLink "LoseLeague" (159 : Nat) ({ cls := "LoseLeague$Reader", name := "lines", desc := "()I" } : Jvm.MethodName)) ∈ lw_all := lw_g (lw_at lw_m2 93 rfl) rfl
theorem q489 : (Jvm.Cond.methodLink "LoseLeague" (165 : Nat) ({ cls := "LoseLeague$League", name := "as", desc := "(LLoseLeague$League;)V" } : Jvm.MethodName)) ∈ lw_all := lw_g (lw_at lw_m2 186 rfl) rfl
theorem q497 : (Jvm.Cond.instanceMethod ({ cls := "LoseLeague", name := "fault", desc := "()I" } : Jvm.MethodName)) ∈ lw_all := lw_g (lw_at lw_m2 194 rfl) rfl
theorem q498 : (Jvm.Cond.selects "LoseLeague" ({ cls := "LoseLeague", name := "fault", desc := "()I" } : Jvm.MethodName) ({ cls := "LoseLeague", name := "fault", desc := "()I" } : Jvm.MethodName)) ∈ lw_all := lw_g (lw_at lw_m2 195 rfl) rfl
theorem q499 : (Jvm.Cond.code ({ cls := "LoseLeague", name := "fault", desc := "()I" } : Jvm.MethodName) prog_1_method_15_code (1 : Nat) (Option.some Jvm.ClassFile.FieldType.int)) ∈ lw_all := lw_g (lw_at lw_m2 196 rfl) rfl
theorem q501 : (Jvm.Cond.instanceMethod ({ cls := "LoseLeague", name := "rule", desc := "(I)I" } : Jvm.MethodName)) ∈ lw_all := lw_g (lw_at lw_m2 198 rfl) rfl
theorem q502 : (Jvm.Cond.selects "LoseLeague" ({ cls := "LoseLeague", name := "rule", desc := "(I)I" } : Jvm.MethodName) ({ cls := "LoseLeague", name := "rule", desc := "(I)I" } : Jvm.MethodName)) ∈ lw_all := lw_g (lw_at lw_m2 199 rfl) rfl
theorem q503 : (Jvm.Cond.code ({ cls := "LoseLeague", name := "rule", desc := "(I)I" } : Jvm.MethodName) prog_1_method_20_code (2 : Nat) (Option.some Jvm.ClassFile.FieldType.int)) ∈ lw_all := lw_g (lw_at lw_m2 200 rfl) rfl
theorem q504 : (Jvm.Cond.methodLink "LoseLeague" (49 : Nat) ({ cls := "LoseLeague$League", name := "next", desc := "()I" } : Jvm.MethodName)) ∈ lw_all := lw_g (lw_at lw_m2 201 rfl) rfl
theorem q508 : (Jvm.Cond.methodLink "LoseLeague" (191 : Nat) ({ cls := "LoseLeague$League", name := "beaten", desc := "()I" } : Jvm.MethodName)) ∈ lw_all := lw_g (lw_at lw_m2 205 rfl) rfl
theorem q516 : (Jvm.Cond.methodLink "LoseLeague" (89 : Nat) ({ cls := "LoseLeague$League", name := "sumOf", desc := "(I)I" } : Jvm.MethodName)) ∈ lw_all := lw_g (lw_at lw_m2 213 rfl) rfl
theorem q521 : (Jvm.Cond.instanceMethod ({ cls := "LoseLeague", name := "town", desc := "(II)I" } : Jvm.MethodName)) ∈ lw_all := lw_g (lw_at lw_m2 218 rfl) rfl
theorem q522 : (Jvm.Cond.selects "LoseLeague" ({ cls := "LoseLeague", name := "town", desc := "(II)I" } : Jvm.MethodName) ({ cls := "LoseLeague", name := "town", desc := "(II)I" } : Jvm.MethodName)) ∈ lw_all := lw_g (lw_at lw_m2 219 rfl) rfl
theorem q523 : (Jvm.Cond.code ({ cls := "LoseLeague", name := "town", desc := "(II)I" } : Jvm.MethodName) prog_1_method_21_code (3 : Nat) (Option.some Jvm.ClassFile.FieldType.int)) ∈ lw_all := lw_g (lw_at lw_m2 220 rfl) rfl
theorem q524 : (Jvm.Cond.methodLink "LoseLeague" (185 : Nat) ({ cls := "LoseLeague", name := "isTown", desc := "(I)Z" } : Jvm.MethodName)) ∈ lw_all := lw_g (lw_at lw_m2 221 rfl) rfl
theorem q525 : (Jvm.Cond.privateMethod ({ cls := "LoseLeague", name := "isTown", desc := "(I)Z" } : Jvm.MethodName)) ∈ lw_tbl := lw_at lw_m2 222 rfl
theorem q526 : (Jvm.Cond.instanceMethod ({ cls := "LoseLeague", name := "isTown", desc := "(I)Z" } : Jvm.MethodName)) ∈ lw_all := lw_g (lw_at lw_m2 223 rfl) rfl
theorem q527 : (Jvm.Cond.code ({ cls := "LoseLeague", name := "isTown", desc := "(I)Z" } : Jvm.MethodName) prog_1_method_16_code (2 : Nat) (Option.some Jvm.ClassFile.FieldType.boolean)) ∈ lw_all := lw_g (lw_at lw_m2 224 rfl) rfl
theorem q528 : (Jvm.Cond.constantLong "LoseLeague" (194 : Nat) (4 : Int64)) ∈ lw_all := lw_g (lw_at lw_m2 225 rfl) rfl
theorem q529 : (Jvm.Cond.methodLink "LoseLeague" (7 : Nat) ({ cls := "LoseLeague$League", name := "of", desc := "(II)I" } : Jvm.MethodName)) ∈ lw_all := lw_g (lw_at lw_m2 226 rfl) rfl
theorem q530 : (Jvm.Cond.methodLink "LoseLeague" (18 : Nat) ({ cls := "LoseLeague", name := "plays", desc := "(LLoseLeague$League;I)I" } : Jvm.MethodName)) ∈ lw_all := lw_g (lw_at lw_m2 227 rfl) rfl
theorem q531 : (Jvm.Cond.privateMethod ({ cls := "LoseLeague", name := "plays", desc := "(LLoseLeague$League;I)I" } : Jvm.MethodName)) ∈ lw_tbl := lw_at lw_m2 228 rfl
theorem q532 : (Jvm.Cond.instanceMethod ({ cls := "LoseLeague", name := "plays", desc := "(LLoseLeague$League;I)I" } : Jvm.MethodName)) ∈ lw_all := lw_g (lw_at lw_m2 229 rfl) rfl
theorem q533 : (Jvm.Cond.code ({ cls := "LoseLeague", name := "plays", desc := "(LLoseLeague$League;I)I" } : Jvm.MethodName) prog_1_method_3_code (3 : Nat) (Option.some Jvm.ClassFile.FieldType.int)) ∈ lw_all := lw_g (lw_at lw_m2 230 rfl) rfl
theorem q534 : (Jvm.Cond.methodLink "LoseLeague" (13 : Nat) ({ cls := "LoseLeague$Plain", name := "plays", desc := "(II)I" } : Jvm.MethodName)) ∈ lw_all := lw_g (lw_at lw_m2 231 rfl) rfl
theorem q553 : (Jvm.Cond.instanceMethod ({ cls := "LoseLeague", name := "fixture", desc := "(II)I" } : Jvm.MethodName)) ∈ lw_all := lw_g (lw_at lw_m3 10 rfl) rfl
theorem q554 : (Jvm.Cond.selects "LoseLeague" ({ cls := "LoseLeague", name := "fixture", desc := "(II)I" } : Jvm.MethodName) ({ cls := "LoseLeague", name := "fixture", desc := "(II)I" } : Jvm.MethodName)) ∈ lw_all := lw_g (lw_at lw_m3 11 rfl) rfl
theorem q555 : (Jvm.Cond.code ({ cls := "LoseLeague", name := "fixture", desc := "(II)I" } : Jvm.MethodName) prog_1_method_22_code (3 : Nat) (Option.some Jvm.ClassFile.FieldType.int)) ∈ lw_all := lw_g (lw_at lw_m3 12 rfl) rfl
theorem q556 : (Jvm.Cond.methodLink "LoseLeague" (196 : Nat) ({ cls := "LoseLeague", name := "isPart", desc := "(I)Z" } : Jvm.MethodName)) ∈ lw_all := lw_g (lw_at lw_m3 13 rfl) rfl
theorem q557 : (Jvm.Cond.static ({ cls := "LoseLeague", name := "isPart", desc := "(I)Z" } : Jvm.MethodName)) ∈ lw_all := lw_g (lw_at lw_m3 14 rfl) rfl
theorem q558 : (Jvm.Cond.code ({ cls := "LoseLeague", name := "isPart", desc := "(I)Z" } : Jvm.MethodName) prog_1_method_18_code (1 : Nat) (Option.some Jvm.ClassFile.FieldType.boolean)) ∈ lw_all := lw_g (lw_at lw_m3 15 rfl) rfl
theorem q560 : (Jvm.Cond.instanceMethod ({ cls := "LoseLeague", name := "game", desc := "(II)I" } : Jvm.MethodName)) ∈ lw_all := lw_g (lw_at lw_m3 17 rfl) rfl
theorem q561 : (Jvm.Cond.selects "LoseLeague" ({ cls := "LoseLeague", name := "game", desc := "(II)I" } : Jvm.MethodName) ({ cls := "LoseLeague", name := "game", desc := "(II)I" } : Jvm.MethodName)) ∈ lw_all := lw_g (lw_at lw_m3 18 rfl) rfl
theorem q562 : (Jvm.Cond.code ({ cls := "LoseLeague", name := "game", desc := "(II)I" } : Jvm.MethodName) prog_1_method_23_code (3 : Nat) (Option.some Jvm.ClassFile.FieldType.int)) ∈ lw_all := lw_g (lw_at lw_m3 19 rfl) rfl
theorem q563 : (Jvm.Cond.methodLink "LoseLeague" (199 : Nat) ({ cls := "LoseLeague", name := "areTwo", desc := "(II)Z" } : Jvm.MethodName)) ∈ lw_all := lw_g (lw_at lw_m3 20 rfl) rfl
theorem q564 : (Jvm.Cond.privateMethod ({ cls := "LoseLeague", name := "areTwo", desc := "(II)Z" } : Jvm.MethodName)) ∈ lw_tbl := lw_at lw_m3 21 rfl
theorem q565 : (Jvm.Cond.instanceMethod ({ cls := "LoseLeague", name := "areTwo", desc := "(II)Z" } : Jvm.MethodName)) ∈ lw_all := lw_g (lw_at lw_m3 22 rfl) rfl
theorem q566 : (Jvm.Cond.code ({ cls := "LoseLeague", name := "areTwo", desc := "(II)Z" } : Jvm.MethodName) prog_1_method_17_code (3 : Nat) (Option.some Jvm.ClassFile.FieldType.boolean)) ∈ lw_all := lw_g (lw_at lw_m3 23 rfl) rfl
theorem q567 : (Jvm.Cond.methodLink "LoseLeague" (34 : Nat) ({ cls := "LoseLeague", name := "loserOf", desc := "(LLoseLeague$League;II)I" } : Jvm.MethodName)) ∈ lw_all := lw_g (lw_at lw_m3 24 rfl) rfl
theorem q568 : (Jvm.Cond.privateMethod ({ cls := "LoseLeague", name := "loserOf", desc := "(LLoseLeague$League;II)I" } : Jvm.MethodName)) ∈ lw_tbl := lw_at lw_m3 25 rfl
theorem q569 : (Jvm.Cond.instanceMethod ({ cls := "LoseLeague", name := "loserOf", desc := "(LLoseLeague$League;II)I" } : Jvm.MethodName)) ∈ lw_all := lw_g (lw_at lw_m3 26 rfl) rfl
theorem q570 : (Jvm.Cond.code ({ cls := "LoseLeague", name := "loserOf", desc := "(LLoseLeague$League;II)I" } : Jvm.MethodName) prog_1_method_4_code (5 : Nat) (Option.some Jvm.ClassFile.FieldType.int)) ∈ lw_all := lw_g (lw_at lw_m3 27 rfl) rfl
theorem q572 : (Jvm.Cond.instanceMethod ({ cls := "LoseLeague", name := "alter", desc := "(III)I" } : Jvm.MethodName)) ∈ lw_all := lw_g (lw_at lw_m3 29 rfl) rfl
theorem q573 : (Jvm.Cond.selects "LoseLeague" ({ cls := "LoseLeague", name := "alter", desc := "(III)I" } : Jvm.MethodName) ({ cls := "LoseLeague", name := "alter", desc := "(III)I" } : Jvm.MethodName)) ∈ lw_all := lw_g (lw_at lw_m3 30 rfl) rfl
theorem q574 : (Jvm.Cond.code ({ cls := "LoseLeague", name := "alter", desc := "(III)I" } : Jvm.MethodName) prog_1_method_24_code (6 : Nat) (Option.some Jvm.ClassFile.FieldType.int)) ∈ lw_all := lw_g (lw_at lw_m3 31 rfl) rfl
theorem q575 : (Jvm.Cond.constantLong "LoseLeague" (203 : Nat) (3 : Int64)) ∈ lw_all := lw_g (lw_at lw_m3 32 rfl) rfl
theorem q576 : (Jvm.Cond.methodLink "LoseLeague" (205 : Nat) ({ cls := "LoseLeague$League", name := "becomes", desc := "(III)V" } : Jvm.MethodName)) ∈ lw_all := lw_g (lw_at lw_m3 33 rfl) rfl
theorem q578 : (Jvm.Cond.instanceMethod ({ cls := "LoseLeague", name := "lend", desc := "(III)I" } : Jvm.MethodName)) ∈ lw_all := lw_g (lw_at lw_m3 35 rfl) rfl
theorem q579 : (Jvm.Cond.selects "LoseLeague" ({ cls := "LoseLeague", name := "lend", desc := "(III)I" } : Jvm.MethodName) ({ cls := "LoseLeague", name := "lend", desc := "(III)I" } : Jvm.MethodName)) ∈ lw_all := lw_g (lw_at lw_m3 36 rfl) rfl
theorem q580 : (Jvm.Cond.code ({ cls := "LoseLeague", name := "lend", desc := "(III)I" } : Jvm.MethodName) prog_1_method_27_code (5 : Nat) (Option.some Jvm.ClassFile.FieldType.int)) ∈ lw_all := lw_g (lw_at lw_m3 37 rfl) rfl
theorem q581 : (Jvm.Cond.constantLong "LoseLeague" (209 : Nat) (20 : Int64)) ∈ lw_all := lw_g (lw_at lw_m3 38 rfl) rfl
theorem q582 : (Jvm.Cond.methodLink "LoseLeague" (211 : Nat) ({ cls := "LoseLeague", name := "whyNot", desc := "(III)I" } : Jvm.MethodName)) ∈ lw_all := lw_g (lw_at lw_m3 39 rfl) rfl
theorem q583 : (Jvm.Cond.privateMethod ({ cls := "LoseLeague", name := "whyNot", desc := "(III)I" } : Jvm.MethodName)) ∈ lw_tbl := lw_at lw_m3 40 rfl
theorem q584 : (Jvm.Cond.instanceMethod ({ cls := "LoseLeague", name := "whyNot", desc := "(III)I" } : Jvm.MethodName)) ∈ lw_all := lw_g (lw_at lw_m3 41 rfl) rfl
theorem q585 : (Jvm.Cond.code ({ cls := "LoseLeague", name := "whyNot", desc := "(III)I" } : Jvm.MethodName) prog_1_method_25_code (4 : Nat) (Option.some Jvm.ClassFile.FieldType.int)) ∈ lw_all := lw_g (lw_at lw_m3 42 rfl) rfl
theorem q586 : (Jvm.Cond.methodLink "LoseLeague" (215 : Nat) ({ cls := "LoseLeague", name := "lends", desc := "(LLoseLeague$League;III)V" } : Jvm.MethodName)) ∈ lw_all := lw_g (lw_at lw_m3 43 rfl) rfl
theorem q587 : (Jvm.Cond.static ({ cls := "LoseLeague", name := "lends", desc := "(LLoseLeague$League;III)V" } : Jvm.MethodName)) ∈ lw_all := lw_g (lw_at lw_m3 44 rfl) rfl
theorem q588 : (Jvm.Cond.code ({ cls := "LoseLeague", name := "lends", desc := "(LLoseLeague$League;III)V" } : Jvm.MethodName) prog_1_method_26_code (4 : Nat) (Option.none : Option Jvm.ClassFile.FieldType)) ∈ lw_all := lw_g (lw_at lw_m3 45 rfl) rfl
theorem q590 : (Jvm.Cond.instanceMethod ({ cls := "LoseLeague", name := "book", desc := "(II)I" } : Jvm.MethodName)) ∈ lw_all := lw_g (lw_at lw_m3 47 rfl) rfl
theorem q591 : (Jvm.Cond.selects "LoseLeague" ({ cls := "LoseLeague", name := "book", desc := "(II)I" } : Jvm.MethodName) ({ cls := "LoseLeague", name := "book", desc := "(II)I" } : Jvm.MethodName)) ∈ lw_all := lw_g (lw_at lw_m3 48 rfl) rfl
theorem q592 : (Jvm.Cond.code ({ cls := "LoseLeague", name := "book", desc := "(II)I" } : Jvm.MethodName) prog_1_method_28_code (3 : Nat) (Option.some Jvm.ClassFile.FieldType.int)) ∈ lw_all := lw_g (lw_at lw_m3 49 rfl) rfl
theorem q593 : (Jvm.Cond.methodLink "LoseLeague" (219 : Nat) ({ cls := "LoseLeague$League", name := "books", desc := "(II)V" } : Jvm.MethodName)) ∈ lw_all := lw_g (lw_at lw_m3 50 rfl) rfl
theorem q595 : (Jvm.Cond.instanceMethod ({ cls := "LoseLeague", name := "strike", desc := "(I)I" } : Jvm.MethodName)) ∈ lw_all := lw_g (lw_at lw_m3 52 rfl) rfl
theorem q596 : (Jvm.Cond.selects "LoseLeague" ({ cls := "LoseLeague", name := "strike", desc := "(I)I" } : Jvm.MethodName) ({ cls := "LoseLeague", name := "strike", desc := "(I)I" } : Jvm.MethodName)) ∈ lw_all := lw_g (lw_at lw_m3 53 rfl) rfl
theorem q597 : (Jvm.Cond.code ({ cls := "LoseLeague", name := "strike", desc := "(I)I" } : Jvm.MethodName) prog_1_method_29_code (3 : Nat) (Option.some Jvm.ClassFile.FieldType.int)) ∈ lw_all := lw_g (lw_at lw_m3 54 rfl) rfl
theorem q599 : (Jvm.Cond.instanceMethod ({ cls := "LoseLeague", name := "weeks", desc := "(I)I" } : Jvm.MethodName)) ∈ lw_all := lw_g (lw_at lw_m3 56 rfl) rfl
theorem q600 : (Jvm.Cond.selects "LoseLeague" ({ cls := "LoseLeague", name := "weeks", desc := "(I)I" } : Jvm.MethodName) ({ cls := "LoseLeague", name := "weeks", desc := "(I)I" } : Jvm.MethodName)) ∈ lw_all := lw_g (lw_at lw_m3 57 rfl) rfl
theorem q601 : (Jvm.Cond.code ({ cls := "LoseLeague", name := "weeks", desc := "(I)I" } : Jvm.MethodName) prog_1_method_30_code (2 : Nat) (Option.some Jvm.ClassFile.FieldType.int)) ∈ lw_all := lw_g (lw_at lw_m3 58 rfl) rfl
theorem q602 : (Jvm.Cond.constantLong "LoseLeague" (223 : Nat) (30 : Int64)) ∈ lw_all := lw_g (lw_at lw_m3 59 rfl) rfl
theorem q603 : (Jvm.Cond.methodLink "LoseLeague" (85 : Nat) ({ cls := "LoseLeague", name := "weeksGo", desc := "(LLoseLeague$League;I)V" } : Jvm.MethodName)) ∈ lw_all := lw_g (lw_at lw_m3 60 rfl) rfl
theorem q604 : (Jvm.Cond.privateMethod ({ cls := "LoseLeague", name := "weeksGo", desc := "(LLoseLeague$League;I)V" } : Jvm.MethodName)) ∈ lw_tbl := lw_at lw_m3 61 rfl
theorem q605 : (Jvm.Cond.instanceMethod ({ cls := "LoseLeague", name := "weeksGo", desc := "(LLoseLeague$League;I)V" } : Jvm.MethodName)) ∈ lw_all := lw_g (lw_at lw_m3 62 rfl) rfl
theorem q606 : (Jvm.Cond.code ({ cls := "LoseLeague", name := "weeksGo", desc := "(LLoseLeague$League;I)V" } : Jvm.MethodName) prog_1_method_9_code (4 : Nat) (Option.none : Option Jvm.ClassFile.FieldType)) ∈ lw_all := lw_g (lw_at lw_m3 63 rfl) rfl
theorem q607 : (Jvm.Cond.methodLink "LoseLeague" (74 : Nat) ({ cls := "LoseLeague", name := "startsCounting", desc := "()V" } : Jvm.MethodName)) ∈ lw_all := lw_g (lw_at lw_m3 64 rfl) rfl
theorem q608 : (Jvm.Cond.privateMethod ({ cls := "LoseLeague", name := "startsCounting", desc := "()V" } : Jvm.MethodName)) ∈ lw_tbl := lw_at lw_m3 65 rfl
theorem q609 : (Jvm.Cond.instanceMethod ({ cls := "LoseLeague", name := "startsCounting", desc := "()V" } : Jvm.MethodName)) ∈ lw_all := lw_g (lw_at lw_m3 66 rfl) rfl
theorem q610 : (Jvm.Cond.code ({ cls := "LoseLeague", name := "startsCounting", desc := "()V" } : Jvm.MethodName) prog_1_method_5_code (1 : Nat) (Option.none : Option Jvm.ClassFile.FieldType)) ∈ lw_all := lw_g (lw_at lw_m3 67 rfl) rfl
theorem q611 : (Jvm.Cond.methodLink "LoseLeague" (77 : Nat) ({ cls := "LoseLeague", name := "weekGoes", desc := "(LLoseLeague$League;Z)V" } : Jvm.MethodName)) ∈ lw_all := lw_g (lw_at lw_m3 68 rfl) rfl
theorem q612 : (Jvm.Cond.privateMethod ({ cls := "LoseLeague", name := "weekGoes", desc := "(LLoseLeague$League;Z)V" } : Jvm.MethodName)) ∈ lw_tbl := lw_at lw_m3 69 rfl
theorem q613 : (Jvm.Cond.instanceMethod ({ cls := "LoseLeague", name := "weekGoes", desc := "(LLoseLeague$League;Z)V" } : Jvm.MethodName)) ∈ lw_all := lw_g (lw_at lw_m3 70 rfl) rfl
theorem q614 : (Jvm.Cond.code ({ cls := "LoseLeague", name := "weekGoes", desc := "(LLoseLeague$League;Z)V" } : Jvm.MethodName) prog_1_method_8_code (4 : Nat) (Option.none : Option Jvm.ClassFile.FieldType)) ∈ lw_all := lw_g (lw_at lw_m3 71 rfl) rfl
theorem q615 : (Jvm.Cond.methodLink "LoseLeague" (66 : Nat) ({ cls := "LoseLeague", name := "isPlayed", desc := "(LLoseLeague$League;II)V" } : Jvm.MethodName)) ∈ lw_all := lw_g (lw_at lw_m3 72 rfl) rfl
theorem q616 : (Jvm.Cond.privateMethod ({ cls := "LoseLeague", name := "isPlayed", desc := "(LLoseLeague$League;II)V" } : Jvm.MethodName)) ∈ lw_tbl := lw_at lw_m3 73 rfl
theorem q617 : (Jvm.Cond.instanceMethod ({ cls := "LoseLeague", name := "isPlayed", desc := "(LLoseLeague$League;II)V" } : Jvm.MethodName)) ∈ lw_all := lw_g (lw_at lw_m3 74 rfl) rfl
theorem q618 : (Jvm.Cond.code ({ cls := "LoseLeague", name := "isPlayed", desc := "(LLoseLeague$League;II)V" } : Jvm.MethodName) prog_1_method_6_code (5 : Nat) (Option.none : Option Jvm.ClassFile.FieldType)) ∈ lw_all := lw_g (lw_at lw_m3 75 rfl) rfl
theorem q619 : (Jvm.Cond.methodLink "LoseLeague" (38 : Nat) ({ cls := "LoseLeague$League", name := "grows", desc := "(IIII)V" } : Jvm.MethodName)) ∈ lw_all := lw_g (lw_at lw_m3 76 rfl) rfl
theorem q627 : (Jvm.Cond.methodLink "LoseLeague" (42 : Nat) ({ cls := "LoseLeague$Plain", name := "trains", desc := "()I" } : Jvm.MethodName)) ∈ lw_all := lw_g (lw_at lw_m3 84 rfl) rfl
theorem q643 : (Jvm.Cond.methodLink "LoseLeague" (70 : Nat) ({ cls := "LoseLeague", name := "weekEnds", desc := "(LLoseLeague$League;)V" } : Jvm.MethodName)) ∈ lw_all := lw_g (lw_at lw_m3 100 rfl) rfl
theorem q644 : (Jvm.Cond.privateMethod ({ cls := "LoseLeague", name := "weekEnds", desc := "(LLoseLeague$League;)V" } : Jvm.MethodName)) ∈ lw_tbl := lw_at lw_m3 101 rfl
theorem q645 : (Jvm.Cond.instanceMethod ({ cls := "LoseLeague", name := "weekEnds", desc := "(LLoseLeague$League;)V" } : Jvm.MethodName)) ∈ lw_all := lw_g (lw_at lw_m3 102 rfl) rfl
theorem q646 : (Jvm.Cond.code ({ cls := "LoseLeague", name := "weekEnds", desc := "(LLoseLeague$League;)V" } : Jvm.MethodName) prog_1_method_7_code (2 : Nat) (Option.none : Option Jvm.ClassFile.FieldType)) ∈ lw_all := lw_g (lw_at lw_m3 103 rfl) rfl
theorem q647 : (Jvm.Cond.methodLink "LoseLeague" (52 : Nat) ({ cls := "LoseLeague$League", name := "isOver", desc := "()V" } : Jvm.MethodName)) ∈ lw_all := lw_g (lw_at lw_m3 104 rfl) rfl
theorem q653 : (Jvm.Cond.instanceMethod ({ cls := "LoseLeague", name := "runs", desc := "(II)I" } : Jvm.MethodName)) ∈ lw_all := lw_g (lw_at lw_m3 110 rfl) rfl
theorem q654 : (Jvm.Cond.selects "LoseLeague" ({ cls := "LoseLeague", name := "runs", desc := "(II)I" } : Jvm.MethodName) ({ cls := "LoseLeague", name := "runs", desc := "(II)I" } : Jvm.MethodName)) ∈ lw_all := lw_g (lw_at lw_m3 111 rfl) rfl
theorem q655 : (Jvm.Cond.code ({ cls := "LoseLeague", name := "runs", desc := "(II)I" } : Jvm.MethodName) prog_1_method_31_code (3 : Nat) (Option.some Jvm.ClassFile.FieldType.int)) ∈ lw_all := lw_g (lw_at lw_m3 112 rfl) rfl
theorem q656 : (Jvm.Cond.methodLink "LoseLeague" (225 : Nat) ({ cls := "LoseLeague", name := "isFar", desc := "(I)Z" } : Jvm.MethodName)) ∈ lw_all := lw_g (lw_at lw_m3 113 rfl) rfl
theorem q657 : (Jvm.Cond.static ({ cls := "LoseLeague", name := "isFar", desc := "(I)Z" } : Jvm.MethodName)) ∈ lw_all := lw_g (lw_at lw_m3 114 rfl) rfl
theorem q658 : (Jvm.Cond.code ({ cls := "LoseLeague", name := "isFar", desc := "(I)Z" } : Jvm.MethodName) prog_1_method_19_code (1 : Nat) (Option.some Jvm.ClassFile.FieldType.boolean)) ∈ lw_all := lw_g (lw_at lw_m3 115 rfl) rfl
theorem q659 : (Jvm.Cond.constantLong "LoseLeague" (189 : Nat) (60 : Int64)) ∈ lw_all := lw_g (lw_at lw_m3 116 rfl) rfl
theorem q661 : (Jvm.Cond.instanceMethod ({ cls := "LoseLeague", name := "ahead", desc := "(III)I" } : Jvm.MethodName)) ∈ lw_all := lw_g (lw_at lw_m3 118 rfl) rfl
theorem q662 : (Jvm.Cond.selects "LoseLeague" ({ cls := "LoseLeague", name := "ahead", desc := "(III)I" } : Jvm.MethodName) ({ cls := "LoseLeague", name := "ahead", desc := "(III)I" } : Jvm.MethodName)) ∈ lw_all := lw_g (lw_at lw_m3 119 rfl) rfl
theorem q663 : (Jvm.Cond.code ({ cls := "LoseLeague", name := "ahead", desc := "(III)I" } : Jvm.MethodName) prog_1_method_32_code (4 : Nat) (Option.some Jvm.ClassFile.FieldType.int)) ∈ lw_all := lw_g (lw_at lw_m3 120 rfl) rfl
theorem q664 : (Jvm.Cond.constantLong "LoseLeague" (228 : Nat) (2 : Int64)) ∈ lw_all := lw_g (lw_at lw_m3 121 rfl) rfl
theorem q666 : (Jvm.Cond.instanceMethod ({ cls := "LoseLeague", name := "loser", desc := "(I)I" } : Jvm.MethodName)) ∈ lw_all := lw_g (lw_at lw_m3 123 rfl) rfl
theorem q667 : (Jvm.Cond.selects "LoseLeague" ({ cls := "LoseLeague", name := "loser", desc := "(I)I" } : Jvm.MethodName) ({ cls := "LoseLeague", name := "loser", desc := "(I)I" } : Jvm.MethodName)) ∈ lw_all := lw_g (lw_at lw_m3 124 rfl) rfl
theorem q668 : (Jvm.Cond.code ({ cls := "LoseLeague", name := "loser", desc := "(I)I" } : Jvm.MethodName) prog_1_method_33_code (2 : Nat) (Option.some Jvm.ClassFile.FieldType.int)) ∈ lw_all := lw_g (lw_at lw_m3 125 rfl) rfl
theorem q670 : (Jvm.Cond.instanceMethod ({ cls := "LoseLeague", name := "loses", desc := "(I)I" } : Jvm.MethodName)) ∈ lw_all := lw_g (lw_at lw_m3 127 rfl) rfl
theorem q671 : (Jvm.Cond.selects "LoseLeague" ({ cls := "LoseLeague", name := "loses", desc := "(I)I" } : Jvm.MethodName) ({ cls := "LoseLeague", name := "loses", desc := "(I)I" } : Jvm.MethodName)) ∈ lw_all := lw_g (lw_at lw_m3 128 rfl) rfl
theorem q672 : (Jvm.Cond.code ({ cls := "LoseLeague", name := "loses", desc := "(I)I" } : Jvm.MethodName) prog_1_method_34_code (3 : Nat) (Option.some Jvm.ClassFile.FieldType.int)) ∈ lw_all := lw_g (lw_at lw_m3 129 rfl) rfl
theorem q674 : (Jvm.Cond.instanceMethod ({ cls := "LoseLeague", name := "order", desc := "(I)I" } : Jvm.MethodName)) ∈ lw_all := lw_g (lw_at lw_m3 131 rfl) rfl
theorem q675 : (Jvm.Cond.selects "LoseLeague" ({ cls := "LoseLeague", name := "order", desc := "(I)I" } : Jvm.MethodName) ({ cls := "LoseLeague", name := "order", desc := "(I)I" } : Jvm.MethodName)) ∈ lw_all := lw_g (lw_at lw_m3 132 rfl) rfl
theorem q676 : (Jvm.Cond.code ({ cls := "LoseLeague", name := "order", desc := "(I)I" } : Jvm.MethodName) prog_1_method_42_code (2 : Nat) (Option.some Jvm.ClassFile.FieldType.int)) ∈ lw_all := lw_g (lw_at lw_m3 133 rfl) rfl
theorem q677 : (Jvm.Cond.constantLong "LoseLeague" (268 : Nat) (10 : Int64)) ∈ lw_all := lw_g (lw_at lw_m3 134 rfl) rfl
theorem q678 : (Jvm.Cond.constantLong "LoseLeague" (270 : Nat) (14 : Int64)) ∈ lw_all := lw_g (lw_at lw_m3 135 rfl) rfl
theorem q679 : (Jvm.Cond.methodLink "LoseLeague" (272 : Nat) ({ cls := "LoseLeague", name := "findOrder", desc := "()V" } : Jvm.MethodName)) ∈ lw_all := lw_g (lw_at lw_m3 136 rfl) rfl
theorem q680 : (Jvm.Cond.privateMethod ({ cls := "LoseLeague", name := "findOrder", desc := "()V" } : Jvm.MethodName)) ∈ lw_tbl := lw_at lw_m3 137 rfl
theorem q681 : (Jvm.Cond.instanceMethod ({ cls := "LoseLeague", name := "findOrder", desc := "()V" } : Jvm.MethodName)) ∈ lw_all := lw_g (lw_at lw_m3 138 rfl) rfl
theorem q682 : (Jvm.Cond.code ({ cls := "LoseLeague", name := "findOrder", desc := "()V" } : Jvm.MethodName) prog_1_method_41_code (5 : Nat) (Option.none : Option Jvm.ClassFile.FieldType)) ∈ lw_all := lw_g (lw_at lw_m3 139 rfl) rfl
theorem q683 : (Jvm.Cond.constant "LoseLeague" (251 : Nat) (1000000 : Int32)) ∈ lw_all := lw_g (lw_at lw_m3 140 rfl) rfl
theorem q684 : (Jvm.Cond.methodLink "LoseLeague" (244 : Nat) ({ cls := "LoseLeague", name := "startsJudging", desc := "(I)V" } : Jvm.MethodName)) ∈ lw_all := lw_g (lw_at lw_m3 141 rfl) rfl
theorem q685 : (Jvm.Cond.privateMethod ({ cls := "LoseLeague", name := "startsJudging", desc := "(I)V" } : Jvm.MethodName)) ∈ lw_tbl := lw_at lw_m3 142 rfl
theorem q686 : (Jvm.Cond.instanceMethod ({ cls := "LoseLeague", name := "startsJudging", desc := "(I)V" } : Jvm.MethodName)) ∈ lw_all := lw_g (lw_at lw_m3 143 rfl) rfl
theorem q687 : (Jvm.Cond.code ({ cls := "LoseLeague", name := "startsJudging", desc := "(I)V" } : Jvm.MethodName) prog_1_method_35_code (2 : Nat) (Option.none : Option Jvm.ClassFile.FieldType)) ∈ lw_all := lw_g (lw_at lw_m3 144 rfl) rfl
theorem q688 : (Jvm.Cond.methodLink "LoseLeague" (252 : Nat) ({ cls := "LoseLeague$League", name := "isPlace", desc := "(ILLoseLeague$League;I)V" } : Jvm.MethodName)) ∈ lw_all := lw_g (lw_at lw_m3 145 rfl) rfl
theorem q692 : (Jvm.Cond.methodLink "LoseLeague" (241 : Nat) ({ cls := "LoseLeague", name := "owedByTried", desc := "(I)I" } : Jvm.MethodName)) ∈ lw_all := lw_g (lw_at lw_m3 149 rfl) rfl
theorem q693 : (Jvm.Cond.privateMethod ({ cls := "LoseLeague", name := "owedByTried", desc := "(I)I" } : Jvm.MethodName)) ∈ lw_tbl := lw_at lw_m3 150 rfl
theorem q694 : (Jvm.Cond.instanceMethod ({ cls := "LoseLeague", name := "owedByTried", desc := "(I)I" } : Jvm.MethodName)) ∈ lw_all := lw_g (lw_at lw_m3 151 rfl) rfl
theorem q695 : (Jvm.Cond.code ({ cls := "LoseLeague", name := "owedByTried", desc := "(I)I" } : Jvm.MethodName) prog_1_method_10_code (2 : Nat) (Option.some Jvm.ClassFile.FieldType.int)) ∈ lw_all := lw_g (lw_at lw_m3 152 rfl) rfl
theorem q696 : (Jvm.Cond.methodLink "LoseLeague" (256 : Nat) ({ cls := "LoseLeague", name := "judges", desc := "(II)V" } : Jvm.MethodName)) ∈ lw_all := lw_g (lw_at lw_m3 153 rfl) rfl
theorem q697 : (Jvm.Cond.privateMethod ({ cls := "LoseLeague", name := "judges", desc := "(II)V" } : Jvm.MethodName)) ∈ lw_tbl := lw_at lw_m3 154 rfl
theorem q698 : (Jvm.Cond.instanceMethod ({ cls := "LoseLeague", name := "judges", desc := "(II)V" } : Jvm.MethodName)) ∈ lw_all := lw_g (lw_at lw_m3 155 rfl) rfl
theorem q699 : (Jvm.Cond.code ({ cls := "LoseLeague", name := "judges", desc := "(II)V" } : Jvm.MethodName) prog_1_method_36_code (3 : Nat) (Option.none : Option Jvm.ClassFile.FieldType)) ∈ lw_all := lw_g (lw_at lw_m3 156 rfl) rfl
theorem q700 : (Jvm.Cond.methodLink "LoseLeague" (236 : Nat) ({ cls := "java/lang/Math", name := "min", desc := "(II)I" } : Jvm.MethodName)) ∈ lw_all := lw_g (lw_at lw_m3 157 rfl) rfl
theorem q701 : (Jvm.Cond.methodLink "LoseLeague" (259 : Nat) ({ cls := "java/lang/System", name := "arraycopy", desc := "(Ljava/lang/Object;ILjava/lang/Object;II)V" } : Jvm.MethodName)) ∈ lw_all := lw_g (lw_at lw_m3 158 rfl) rfl
theorem q702 : (Jvm.Cond.methodLink "LoseLeague" (265 : Nat) ({ cls := "LoseLeague", name := "goesOn", desc := "(I)Z" } : Jvm.MethodName)) ∈ lw_all := lw_g (lw_at lw_m3 159 rfl) rfl
theorem q703 : (Jvm.Cond.privateMethod ({ cls := "LoseLeague", name := "goesOn", desc := "(I)Z" } : Jvm.MethodName)) ∈ lw_tbl := lw_at lw_m3 160 rfl
theorem q704 : (Jvm.Cond.instanceMethod ({ cls := "LoseLeague", name := "goesOn", desc := "(I)Z" } : Jvm.MethodName)) ∈ lw_all := lw_g (lw_at lw_m3 161 rfl) rfl
theorem q705 : (Jvm.Cond.code ({ cls := "LoseLeague", name := "goesOn", desc := "(I)Z" } : Jvm.MethodName) prog_1_method_40_code (6 : Nat) (Option.some Jvm.ClassFile.FieldType.boolean)) ∈ lw_all := lw_g (lw_at lw_m3 162 rfl) rfl
theorem q706 : (Jvm.Cond.methodLink "LoseLeague" (248 : Nat) ({ cls := "LoseLeague", name := "trades", desc := "(II)V" } : Jvm.MethodName)) ∈ lw_all := lw_g (lw_at lw_m3 163 rfl) rfl
theorem q707 : (Jvm.Cond.privateMethod ({ cls := "LoseLeague", name := "trades", desc := "(II)V" } : Jvm.MethodName)) ∈ lw_tbl := lw_at lw_m3 164 rfl
theorem q708 : (Jvm.Cond.instanceMethod ({ cls := "LoseLeague", name := "trades", desc := "(II)V" } : Jvm.MethodName)) ∈ lw_all := lw_g (lw_at lw_m3 165 rfl) rfl
theorem q709 : (Jvm.Cond.code ({ cls := "LoseLeague", name := "trades", desc := "(II)V" } : Jvm.MethodName) prog_1_method_39_code (4 : Nat) (Option.none : Option Jvm.ClassFile.FieldType)) ∈ lw_all := lw_g (lw_at lw_m3 166 rfl) rfl
theorem q711 : (Jvm.Cond.instanceMethod ({ cls := "LoseLeague", name := "loan", desc := "(II)I" } : Jvm.MethodName)) ∈ lw_all := lw_g (lw_at lw_m3 168 rfl) rfl
theorem q712 : (Jvm.Cond.selects "LoseLeague" ({ cls := "LoseLeague", name := "loan", desc := "(II)I" } : Jvm.MethodName) ({ cls := "LoseLeague", name := "loan", desc := "(II)I" } : Jvm.MethodName)) ∈ lw_all := lw_g (lw_at lw_m3 169 rfl) rfl
theorem q713 : (Jvm.Cond.code ({ cls := "LoseLeague", name := "loan", desc := "(II)I" } : Jvm.MethodName) prog_1_method_43_code (5 : Nat) (Option.some Jvm.ClassFile.FieldType.int)) ∈ lw_all := lw_g (lw_at lw_m3 170 rfl) rfl
theorem q714 : (Jvm.Cond.methodLink "LoseLeague" (275 : Nat) ({ cls := "LoseLeague", name := "startsByNow", desc := "(I)V" } : Jvm.MethodName)) ∈ lw_all := lw_g (lw_at lw_m3 171 rfl) rfl
theorem q715 : (Jvm.Cond.privateMethod ({ cls := "LoseLeague", name := "startsByNow", desc := "(I)V" } : Jvm.MethodName)) ∈ lw_tbl := lw_at lw_m3 172 rfl
theorem q716 : (Jvm.Cond.instanceMethod ({ cls := "LoseLeague", name := "startsByNow", desc := "(I)V" } : Jvm.MethodName)) ∈ lw_all := lw_g (lw_at lw_m3 173 rfl) rfl
theorem q717 : (Jvm.Cond.code ({ cls := "LoseLeague", name := "startsByNow", desc := "(I)V" } : Jvm.MethodName) prog_1_method_38_code (2 : Nat) (Option.none : Option Jvm.ClassFile.FieldType)) ∈ lw_all := lw_g (lw_at lw_m3 174 rfl) rfl
theorem q718 : (Jvm.Cond.methodLink "LoseLeague" (278 : Nat) ({ cls := "LoseLeague", name := "judged", desc := "(I)I" } : Jvm.MethodName)) ∈ lw_all := lw_g (lw_at lw_m3 175 rfl) rfl
theorem q719 : (Jvm.Cond.privateMethod ({ cls := "LoseLeague", name := "judged", desc := "(I)I" } : Jvm.MethodName)) ∈ lw_tbl := lw_at lw_m3 176 rfl
theorem q720 : (Jvm.Cond.instanceMethod ({ cls := "LoseLeague", name := "judged", desc := "(I)I" } : Jvm.MethodName)) ∈ lw_all := lw_g (lw_at lw_m3 177 rfl) rfl
theorem q721 : (Jvm.Cond.code ({ cls := "LoseLeague", name := "judged", desc := "(I)I" } : Jvm.MethodName) prog_1_method_37_code (2 : Nat) (Option.some Jvm.ClassFile.FieldType.int)) ∈ lw_all := lw_g (lw_at lw_m3 178 rfl) rfl
theorem q723 : (Jvm.Cond.instanceMethod ({ cls := "LoseLeague", name := "swap", desc := "(II)I" } : Jvm.MethodName)) ∈ lw_all := lw_g (lw_at lw_m3 180 rfl) rfl
theorem q724 : (Jvm.Cond.selects "LoseLeague" ({ cls := "LoseLeague", name := "swap", desc := "(II)I" } : Jvm.MethodName) ({ cls := "LoseLeague", name := "swap", desc := "(II)I" } : Jvm.MethodName)) ∈ lw_all := lw_g (lw_at lw_m3 181 rfl) rfl
theorem q725 : (Jvm.Cond.code ({ cls := "LoseLeague", name := "swap", desc := "(II)I" } : Jvm.MethodName) prog_1_method_44_code (5 : Nat) (Option.some Jvm.ClassFile.FieldType.int)) ∈ lw_all := lw_g (lw_at lw_m3 182 rfl) rfl
theorem q727 : (Jvm.Cond.instanceMethod ({ cls := "LoseLeague", name := "skip", desc := "(II)I" } : Jvm.MethodName)) ∈ lw_all := lw_g (lw_at lw_m3 184 rfl) rfl
theorem q728 : (Jvm.Cond.selects "LoseLeague" ({ cls := "LoseLeague", name := "skip", desc := "(II)I" } : Jvm.MethodName) ({ cls := "LoseLeague", name := "skip", desc := "(II)I" } : Jvm.MethodName)) ∈ lw_all := lw_g (lw_at lw_m3 185 rfl) rfl
theorem q729 : (Jvm.Cond.code ({ cls := "LoseLeague", name := "skip", desc := "(II)I" } : Jvm.MethodName) prog_1_method_45_code (4 : Nat) (Option.some Jvm.ClassFile.FieldType.int)) ∈ lw_all := lw_g (lw_at lw_m3 186 rfl) rfl
theorem q731 : (Jvm.Cond.instanceMethod ({ cls := "LoseLeague", name := "most", desc := "(II)I" } : Jvm.MethodName)) ∈ lw_all := lw_g (lw_at lw_m3 188 rfl) rfl
theorem q732 : (Jvm.Cond.selects "LoseLeague" ({ cls := "LoseLeague", name := "most", desc := "(II)I" } : Jvm.MethodName) ({ cls := "LoseLeague", name := "most", desc := "(II)I" } : Jvm.MethodName)) ∈ lw_all := lw_g (lw_at lw_m3 189 rfl) rfl
theorem q733 : (Jvm.Cond.code ({ cls := "LoseLeague", name := "most", desc := "(II)I" } : Jvm.MethodName) prog_1_method_46_code (4 : Nat) (Option.some Jvm.ClassFile.FieldType.int)) ∈ lw_all := lw_g (lw_at lw_m3 190 rfl) rfl
theorem q734 : (Jvm.Cond.methodLink "LoseLeague" (281 : Nat) ({ cls := "LoseLeague", name := "has", desc := "(II)Z" } : Jvm.MethodName)) ∈ lw_all := lw_g (lw_at lw_m3 191 rfl) rfl
theorem q735 : (Jvm.Cond.static ({ cls := "LoseLeague", name := "has", desc := "(II)Z" } : Jvm.MethodName)) ∈ lw_all := lw_g (lw_at lw_m3 192 rfl) rfl
theorem q736 : (Jvm.Cond.code ({ cls := "LoseLeague", name := "has", desc := "(II)Z" } : Jvm.MethodName) prog_1_method_2_code (2 : Nat) (Option.some Jvm.ClassFile.FieldType.boolean)) ∈ lw_all := lw_g (lw_at lw_m3 193 rfl) rfl
theorem q738 : (Jvm.Cond.instanceMethod ({ cls := "LoseLeague", name := "kind", desc := "(III)I" } : Jvm.MethodName)) ∈ lw_all := lw_g (lw_at lw_m3 195 rfl) rfl
theorem q739 : (Jvm.Cond.selects "LoseLeague" ({ cls := "LoseLeague", name := "kind", desc := "(III)I" } : Jvm.MethodName) ({ cls := "LoseLeague", name := "kind", desc := "(III)I" } : Jvm.MethodName)) ∈ lw_all := lw_g (lw_at lw_m3 196 rfl) rfl
theorem q740 : (Jvm.Cond.code ({ cls := "LoseLeague", name := "kind", desc := "(III)I" } : Jvm.MethodName) prog_1_method_47_code (5 : Nat) (Option.some Jvm.ClassFile.FieldType.int)) ∈ lw_all := lw_g (lw_at lw_m3 197 rfl) rfl
theorem q742 : (Jvm.Cond.instanceMethod ({ cls := "LoseLeague", name := "luck", desc := "(IIII)J" } : Jvm.MethodName)) ∈ lw_all := lw_g (lw_at lw_m3 199 rfl) rfl
theorem q743 : (Jvm.Cond.selects "LoseLeague" ({ cls := "LoseLeague", name := "luck", desc := "(IIII)J" } : Jvm.MethodName) ({ cls := "LoseLeague", name := "luck", desc := "(IIII)J" } : Jvm.MethodName)) ∈ lw_all := lw_g (lw_at lw_m3 200 rfl) rfl
theorem q744 : (Jvm.Cond.code ({ cls := "LoseLeague", name := "luck", desc := "(IIII)J" } : Jvm.MethodName) prog_1_method_50_code (5 : Nat) (Option.some Jvm.ClassFile.FieldType.long)) ∈ lw_all := lw_g (lw_at lw_m3 201 rfl) rfl
theorem q745 : (Jvm.Cond.constantLong "LoseLeague" (294 : Nat) (8 : Int64)) ∈ lw_all := lw_g (lw_at lw_m3 202 rfl) rfl
theorem q746 : (Jvm.Cond.constantLong "LoseLeague" (296 : Nat) (-1 : Int64)) ∈ lw_all := lw_g (lw_at lw_m3 203 rfl) rfl
theorem q747 : (Jvm.Cond.methodLink "LoseLeague" (298 : Nat) ({ cls := "LoseLeague", name := "findOdds", desc := "(III)V" } : Jvm.MethodName)) ∈ lw_all := lw_g (lw_at lw_m3 204 rfl) rfl
theorem q748 : (Jvm.Cond.privateMethod ({ cls := "LoseLeague", name := "findOdds", desc := "(III)V" } : Jvm.MethodName)) ∈ lw_tbl := lw_at lw_m3 205 rfl
theorem q749 : (Jvm.Cond.instanceMethod ({ cls := "LoseLeague", name := "findOdds", desc := "(III)V" } : Jvm.MethodName)) ∈ lw_all := lw_g (lw_at lw_m3 206 rfl) rfl
theorem q750 : (Jvm.Cond.code ({ cls := "LoseLeague", name := "findOdds", desc := "(III)V" } : Jvm.MethodName) prog_1_method_49_code (8 : Nat) (Option.none : Option Jvm.ClassFile.FieldType)) ∈ lw_all := lw_g (lw_at lw_m3 207 rfl) rfl
theorem q751 : (Jvm.Cond.methodLink "LoseLeague" (301 : Nat) ({ cls := "LoseLeague", name := "lowest", desc := "(JJI)J" } : Jvm.MethodName)) ∈ lw_all := lw_g (lw_at lw_m3 208 rfl) rfl
theorem q752 : (Jvm.Cond.static ({ cls := "LoseLeague", name := "lowest", desc := "(JJI)J" } : Jvm.MethodName)) ∈ lw_all := lw_g (lw_at lw_m3 209 rfl) rfl
theorem q753 : (Jvm.Cond.code ({ cls := "LoseLeague", name := "lowest", desc := "(JJI)J" } : Jvm.MethodName) prog_1_method_48_code (11 : Nat) (Option.some Jvm.ClassFile.FieldType.long)) ∈ lw_all := lw_g (lw_at lw_m3 210 rfl) rfl
theorem q755 : (Jvm.Cond.instanceMethod ({ cls := "LoseLeague", name := "mean", desc := "(III)J" } : Jvm.MethodName)) ∈ lw_all := lw_g (lw_at lw_m3 212 rfl) rfl
theorem q756 : (Jvm.Cond.selects "LoseLeague" ({ cls := "LoseLeague", name := "mean", desc := "(III)J" } : Jvm.MethodName) ({ cls := "LoseLeague", name := "mean", desc := "(III)J" } : Jvm.MethodName)) ∈ lw_all := lw_g (lw_at lw_m3 213 rfl) rfl
theorem q757 : (Jvm.Cond.code ({ cls := "LoseLeague", name := "mean", desc := "(III)J" } : Jvm.MethodName) prog_1_method_51_code (4 : Nat) (Option.some Jvm.ClassFile.FieldType.long)) ∈ lw_all := lw_g (lw_at lw_m3 214 rfl) rfl
theorem q759 : (Jvm.Cond.instanceMethod ({ cls := "LoseLeague", name := "see", desc := "(II)I" } : Jvm.MethodName)) ∈ lw_all := lw_g (lw_at lw_m3 216 rfl) rfl
theorem q760 : (Jvm.Cond.selects "LoseLeague" ({ cls := "LoseLeague", name := "see", desc := "(II)I" } : Jvm.MethodName) ({ cls := "LoseLeague", name := "see", desc := "(II)I" } : Jvm.MethodName)) ∈ lw_all := lw_g (lw_at lw_m3 217 rfl) rfl
theorem q761 : (Jvm.Cond.code ({ cls := "LoseLeague", name := "see", desc := "(II)I" } : Jvm.MethodName) prog_1_method_52_code (3 : Nat) (Option.some Jvm.ClassFile.FieldType.int)) ∈ lw_all := lw_g (lw_at lw_m3 218 rfl) rfl
theorem q763 : (Jvm.Cond.instanceMethod ({ cls := "LoseLeague", name := "forget", desc := "(I)I" } : Jvm.MethodName)) ∈ lw_all := lw_g (lw_at lw_m3 220 rfl) rfl
theorem q764 : (Jvm.Cond.selects "LoseLeague" ({ cls := "LoseLeague", name := "forget", desc := "(I)I" } : Jvm.MethodName) ({ cls := "LoseLeague", name := "forget", desc := "(I)I" } : Jvm.MethodName)) ∈ lw_all := lw_g (lw_at lw_m3 221 rfl) rfl
theorem q765 : (Jvm.Cond.code ({ cls := "LoseLeague", name := "forget", desc := "(I)I" } : Jvm.MethodName) prog_1_method_53_code (3 : Nat) (Option.some Jvm.ClassFile.FieldType.int)) ∈ lw_all := lw_g (lw_at lw_m3 222 rfl) rfl
theorem q767 : (Jvm.Cond.instanceMethod ({ cls := "LoseLeague", name := "kinds", desc := "(I)I" } : Jvm.MethodName)) ∈ lw_all := lw_g (lw_at lw_m3 224 rfl) rfl
theorem q768 : (Jvm.Cond.selects "LoseLeague" ({ cls := "LoseLeague", name := "kinds", desc := "(I)I" } : Jvm.MethodName) ({ cls := "LoseLeague", name := "kinds", desc := "(I)I" } : Jvm.MethodName)) ∈ lw_all := lw_g (lw_at lw_m3 225 rfl) rfl
theorem q769 : (Jvm.Cond.code ({ cls := "LoseLeague", name := "kinds", desc := "(I)I" } : Jvm.MethodName) prog_1_method_56_code (2 : Nat) (Option.some Jvm.ClassFile.FieldType.int)) ∈ lw_all := lw_g (lw_at lw_m3 226 rfl) rfl
theorem q770 : (Jvm.Cond.methodLink "LoseLeague" (309 : Nat) ({ cls := "LoseLeague", name := "which", desc := "(III)I" } : Jvm.MethodName)) ∈ lw_all := lw_g (lw_at lw_m3 227 rfl) rfl
theorem q771 : (Jvm.Cond.privateMethod ({ cls := "LoseLeague", name := "which", desc := "(III)I" } : Jvm.MethodName)) ∈ lw_tbl := lw_at lw_m3 228 rfl
theorem q772 : (Jvm.Cond.instanceMethod ({ cls := "LoseLeague", name := "which", desc := "(III)I" } : Jvm.MethodName)) ∈ lw_all := lw_g (lw_at lw_m3 229 rfl) rfl
theorem q773 : (Jvm.Cond.code ({ cls := "LoseLeague", name := "which", desc := "(III)I" } : Jvm.MethodName) prog_1_method_55_code (6 : Nat) (Option.some Jvm.ClassFile.FieldType.int)) ∈ lw_all := lw_g (lw_at lw_m3 230 rfl) rfl
theorem q774 : (Jvm.Cond.methodLink "LoseLeague" (305 : Nat) ({ cls := "LoseLeague", name := "isSo", desc := "(III)Z" } : Jvm.MethodName)) ∈ lw_all := lw_g (lw_at lw_m3 231 rfl) rfl
theorem q775 : (Jvm.Cond.privateMethod ({ cls := "LoseLeague", name := "isSo", desc := "(III)Z" } : Jvm.MethodName)) ∈ lw_tbl := lw_at lw_m3 232 rfl
theorem q776 : (Jvm.Cond.instanceMethod ({ cls := "LoseLeague", name := "isSo", desc := "(III)Z" } : Jvm.MethodName)) ∈ lw_all := lw_g (lw_at lw_m3 233 rfl) rfl
theorem q777 : (Jvm.Cond.code ({ cls := "LoseLeague", name := "isSo", desc := "(III)Z" } : Jvm.MethodName) prog_1_method_54_code (6 : Nat) (Option.some Jvm.ClassFile.FieldType.boolean)) ∈ lw_all := lw_g (lw_at lw_m3 234 rfl) rfl
theorem q779 : (Jvm.Cond.instanceMethod ({ cls := "LoseLeague", name := "strengths", desc := "(I)I" } : Jvm.MethodName)) ∈ lw_all := lw_g (lw_at lw_m3 236 rfl) rfl
theorem q780 : (Jvm.Cond.selects "LoseLeague" ({ cls := "LoseLeague", name := "strengths", desc := "(I)I" } : Jvm.MethodName) ({ cls := "LoseLeague", name := "strengths", desc := "(I)I" } : Jvm.MethodName)) ∈ lw_all := lw_g (lw_at lw_m3 237 rfl) rfl
theorem q781 : (Jvm.Cond.code ({ cls := "LoseLeague", name := "strengths", desc := "(I)I" } : Jvm.MethodName) prog_1_method_57_code (2 : Nat) (Option.some Jvm.ClassFile.FieldType.int)) ∈ lw_all := lw_g (lw_at lw_m3 238 rfl) rfl
theorem q783 : (Jvm.Cond.instanceMethod ({ cls := "LoseLeague", name := "ask", desc := "(II)I" } : Jvm.MethodName)) ∈ lw_all := lw_g (lw_at lw_m4 0 rfl) rfl
theorem q784 : (Jvm.Cond.selects "LoseLeague" ({ cls := "LoseLeague", name := "ask", desc := "(II)I" } : Jvm.MethodName) ({ cls := "LoseLeague", name := "ask", desc := "(II)I" } : Jvm.MethodName)) ∈ lw_all := lw_g (lw_at lw_m4 1 rfl) rfl
theorem q785 : (Jvm.Cond.code ({ cls := "LoseLeague", name := "ask", desc := "(II)I" } : Jvm.MethodName) prog_1_method_60_code (5 : Nat) (Option.some Jvm.ClassFile.FieldType.int)) ∈ lw_all := lw_g (lw_at lw_m4 2 rfl) rfl
theorem q786 : (Jvm.Cond.methodLink "LoseLeague" (315 : Nat) ({ cls := "LoseLeague", name := "findStrengths", desc := "(I)I" } : Jvm.MethodName)) ∈ lw_all := lw_g (lw_at lw_m4 3 rfl) rfl
theorem q787 : (Jvm.Cond.privateMethod ({ cls := "LoseLeague", name := "findStrengths", desc := "(I)I" } : Jvm.MethodName)) ∈ lw_tbl := lw_at lw_m4 4 rfl
theorem q788 : (Jvm.Cond.instanceMethod ({ cls := "LoseLeague", name := "findStrengths", desc := "(I)I" } : Jvm.MethodName)) ∈ lw_all := lw_g (lw_at lw_m4 5 rfl) rfl
theorem q789 : (Jvm.Cond.code ({ cls := "LoseLeague", name := "findStrengths", desc := "(I)I" } : Jvm.MethodName) prog_1_method_58_code (4 : Nat) (Option.some Jvm.ClassFile.FieldType.int)) ∈ lw_all := lw_g (lw_at lw_m4 6 rfl) rfl
theorem q790 : (Jvm.Cond.methodLink "LoseLeague" (318 : Nat) ({ cls := "LoseLeague", name := "worstAt", desc := "(II)I" } : Jvm.MethodName)) ∈ lw_all := lw_g (lw_at lw_m4 7 rfl) rfl
theorem q791 : (Jvm.Cond.privateMethod ({ cls := "LoseLeague", name := "worstAt", desc := "(II)I" } : Jvm.MethodName)) ∈ lw_tbl := lw_at lw_m4 8 rfl
theorem q792 : (Jvm.Cond.instanceMethod ({ cls := "LoseLeague", name := "worstAt", desc := "(II)I" } : Jvm.MethodName)) ∈ lw_all := lw_g (lw_at lw_m4 9 rfl) rfl
theorem q793 : (Jvm.Cond.code ({ cls := "LoseLeague", name := "worstAt", desc := "(II)I" } : Jvm.MethodName) prog_1_method_59_code (7 : Nat) (Option.some Jvm.ClassFile.FieldType.int)) ∈ lw_all := lw_g (lw_at lw_m4 10 rfl) rfl
theorem q794 : (Jvm.Cond.methodLink "LoseLeague" (312 : Nat) ({ cls := "java/lang/Math", name := "max", desc := "(II)I" } : Jvm.MethodName)) ∈ lw_all := lw_g (lw_at lw_m4 11 rfl) rfl
theorem q796 : (Jvm.Cond.instanceMethod ({ cls := "LoseLeague", name := "drift", desc := "(III)I" } : Jvm.MethodName)) ∈ lw_all := lw_g (lw_at lw_m4 13 rfl) rfl
theorem q797 : (Jvm.Cond.selects "LoseLeague" ({ cls := "LoseLeague", name := "drift", desc := "(III)I" } : Jvm.MethodName) ({ cls := "LoseLeague", name := "drift", desc := "(III)I" } : Jvm.MethodName)) ∈ lw_all := lw_g (lw_at lw_m4 14 rfl) rfl
theorem q798 : (Jvm.Cond.code ({ cls := "LoseLeague", name := "drift", desc := "(III)I" } : Jvm.MethodName) prog_1_method_61_code (8 : Nat) (Option.some Jvm.ClassFile.FieldType.int)) ∈ lw_all := lw_g (lw_at lw_m4 15 rfl) rfl
theorem q799 : (Jvm.Cond.constant "LoseLeague" (321 : Nat) (1103515245 : Int32)) ∈ lw_all := lw_g (lw_at lw_m4 16 rfl) rfl
theorem q801 : (Jvm.Cond.instanceMethod ({ cls := "LoseLeague", name := "keep", desc := "(I)I" } : Jvm.MethodName)) ∈ lw_all := lw_g (lw_at lw_m4 18 rfl) rfl
theorem q802 : (Jvm.Cond.selects "LoseLeague" ({ cls := "LoseLeague", name := "keep", desc := "(I)I" } : Jvm.MethodName) ({ cls := "LoseLeague", name := "keep", desc := "(I)I" } : Jvm.MethodName)) ∈ lw_all := lw_g (lw_at lw_m4 19 rfl) rfl
theorem q803 : (Jvm.Cond.code ({ cls := "LoseLeague", name := "keep", desc := "(I)I" } : Jvm.MethodName) prog_1_method_62_code (3 : Nat) (Option.some Jvm.ClassFile.FieldType.int)) ∈ lw_all := lw_g (lw_at lw_m4 20 rfl) rfl
theorem q805 : (Jvm.Cond.instanceMethod ({ cls := "LoseLeague", name := "back", desc := "(I)I" } : Jvm.MethodName)) ∈ lw_all := lw_g (lw_at lw_m4 22 rfl) rfl
theorem q806 : (Jvm.Cond.selects "LoseLeague" ({ cls := "LoseLeague", name := "back", desc := "(I)I" } : Jvm.MethodName) ({ cls := "LoseLeague", name := "back", desc := "(I)I" } : Jvm.MethodName)) ∈ lw_all := lw_g (lw_at lw_m4 23 rfl) rfl
theorem q807 : (Jvm.Cond.code ({ cls := "LoseLeague", name := "back", desc := "(I)I" } : Jvm.MethodName) prog_1_method_63_code (2 : Nat) (Option.some Jvm.ClassFile.FieldType.int)) ∈ lw_all := lw_g (lw_at lw_m4 24 rfl) rfl
theorem q809 : (Jvm.Cond.instanceMethod ({ cls := "LoseLeague", name := "sheet", desc := "(III)I" } : Jvm.MethodName)) ∈ lw_all := lw_g (lw_at lw_m4 26 rfl) rfl
theorem q810 : (Jvm.Cond.selects "LoseLeague" ({ cls := "LoseLeague", name := "sheet", desc := "(III)I" } : Jvm.MethodName) ({ cls := "LoseLeague", name := "sheet", desc := "(III)I" } : Jvm.MethodName)) ∈ lw_all := lw_g (lw_at lw_m4 27 rfl) rfl
theorem q811 : (Jvm.Cond.codeWith ({ cls := "LoseLeague", name := "sheet", desc := "(III)I" } : Jvm.MethodName) prog_1_method_65_code (5 : Nat) (Option.some Jvm.ClassFile.FieldType.int) [((16 : Nat), (50 : Nat), (51 : Nat), (329 : Nat))]) ∈ lw_all := lw_g (lw_at lw_m4 28 rfl) rfl
theorem q812 : (Jvm.Cond.classLink "LoseLeague" (329 : Nat) "java/lang/NegativeArraySizeException") ∈ lw_all := lw_g (lw_at lw_m4 29 rfl) rfl
theorem q841 : (Jvm.Cond.methodLink "LoseLeague" (322 : Nat) ({ cls := "LoseLeague", name := "isSheet", desc := "(II)Z" } : Jvm.MethodName)) ∈ lw_all := lw_g (lw_at lw_m4 58 rfl) rfl
theorem q842 : (Jvm.Cond.static ({ cls := "LoseLeague", name := "isSheet", desc := "(II)Z" } : Jvm.MethodName)) ∈ lw_all := lw_g (lw_at lw_m4 59 rfl) rfl
theorem q843 : (Jvm.Cond.code ({ cls := "LoseLeague", name := "isSheet", desc := "(II)Z" } : Jvm.MethodName) prog_1_method_64_code (2 : Nat) (Option.some Jvm.ClassFile.FieldType.boolean)) ∈ lw_all := lw_g (lw_at lw_m4 60 rfl) rfl
theorem q846 : (Jvm.Cond.instanceMethod ({ cls := "LoseLeague", name := "lay", desc := "(III)I" } : Jvm.MethodName)) ∈ lw_all := lw_g (lw_at lw_m4 63 rfl) rfl
theorem q847 : (Jvm.Cond.selects "LoseLeague" ({ cls := "LoseLeague", name := "lay", desc := "(III)I" } : Jvm.MethodName) ({ cls := "LoseLeague", name := "lay", desc := "(III)I" } : Jvm.MethodName)) ∈ lw_all := lw_g (lw_at lw_m4 64 rfl) rfl
theorem q848 : (Jvm.Cond.codeWith ({ cls := "LoseLeague", name := "lay", desc := "(III)I" } : Jvm.MethodName) prog_1_method_66_code (6 : Nat) (Option.some Jvm.ClassFile.FieldType.int) [((25 : Nat), (74 : Nat), (75 : Nat), (335 : Nat)), ((25 : Nat), (74 : Nat), (80 : Nat), (337 : Nat))]) ∈ lw_all := lw_g (lw_at lw_m4 65 rfl) rfl
theorem q849 : (Jvm.Cond.classLink "LoseLeague" (335 : Nat) "java/lang/NullPointerException") ∈ lw_all := lw_g (lw_at lw_m4 66 rfl) rfl
theorem q874 : (Jvm.Cond.classLink "LoseLeague" (337 : Nat) "java/lang/IndexOutOfBoundsException") ∈ lw_all := lw_g (lw_at lw_m4 91 rfl) rfl
theorem q893 : (Jvm.Cond.classLink "LoseLeague" (331 : Nat) "[B") ∈ lw_all := lw_g (lw_at lw_m4 110 rfl) rfl
theorem q894 : (Jvm.Cond.classLink "LoseLeague" (332 : Nat) "[S") ∈ lw_all := lw_g (lw_at lw_m4 111 rfl) rfl
theorem q895 : (Jvm.Cond.classLink "LoseLeague" (334 : Nat) "[I") ∈ lw_all := lw_g (lw_at lw_m4 112 rfl) rfl
theorem q897 : (Jvm.Cond.instanceMethod ({ cls := "LoseLeague", name := "read", desc := "(IIII)I" } : Jvm.MethodName)) ∈ lw_all := lw_g (lw_at lw_m4 114 rfl) rfl
theorem q898 : (Jvm.Cond.selects "LoseLeague" ({ cls := "LoseLeague", name := "read", desc := "(IIII)I" } : Jvm.MethodName) ({ cls := "LoseLeague", name := "read", desc := "(IIII)I" } : Jvm.MethodName)) ∈ lw_all := lw_g (lw_at lw_m4 115 rfl) rfl
theorem q899 : (Jvm.Cond.codeWith ({ cls := "LoseLeague", name := "read", desc := "(IIII)I" } : Jvm.MethodName) prog_1_method_68_code (8 : Nat) (Option.some Jvm.ClassFile.FieldType.int) [((40 : Nat), (100 : Nat), (110 : Nat), (335 : Nat)), ((101 : Nat), (107 : Nat), (110 : Nat), (335 : Nat)), ((40 : Nat), (100 : Nat), (118 : Nat), (345 : Nat)), ((101 : Nat), (107 : Nat), (118 : Nat), (345 : Nat)), ((40 : Nat), (100 : Nat), (126 : Nat), (337 : Nat)), ((101 : Nat), (107 : Nat), (126 : Nat), (337 : Nat))]) ∈ lw_all := lw_g (lw_at lw_m4 116 rfl) rfl
theorem q900 : (Jvm.Cond.classLink "LoseLeague" (345 : Nat) "java/lang/ClassCastException") ∈ lw_all := lw_g (lw_at lw_m4 117 rfl) rfl
theorem q914 : (Jvm.Cond.methodLink "LoseLeague" (339 : Nat) ({ cls := "LoseLeague", name := "takenOf", desc := "(III)I" } : Jvm.MethodName)) ∈ lw_all := lw_g (lw_at lw_m4 131 rfl) rfl
theorem q915 : (Jvm.Cond.privateMethod ({ cls := "LoseLeague", name := "takenOf", desc := "(III)I" } : Jvm.MethodName)) ∈ lw_tbl := lw_at lw_m4 132 rfl
theorem q916 : (Jvm.Cond.instanceMethod ({ cls := "LoseLeague", name := "takenOf", desc := "(III)I" } : Jvm.MethodName)) ∈ lw_all := lw_g (lw_at lw_m4 133 rfl) rfl
theorem q917 : (Jvm.Cond.code ({ cls := "LoseLeague", name := "takenOf", desc := "(III)I" } : Jvm.MethodName) prog_1_method_67_code (5 : Nat) (Option.some Jvm.ClassFile.FieldType.int)) ∈ lw_all := lw_g (lw_at lw_m4 134 rfl) rfl
theorem q918 : (Jvm.Cond.methodLink "LoseLeague" (342 : Nat) ({ cls := "LoseLeague", name := "book", desc := "(II)I" } : Jvm.MethodName)) ∈ lw_all := lw_g (lw_at lw_m4 135 rfl) rfl
theorem q920 : (Jvm.Cond.instanceMethod ({ cls := "LoseLeague", name := "torn", desc := "()I" } : Jvm.MethodName)) ∈ lw_all := lw_g (lw_at lw_m4 137 rfl) rfl
theorem q921 : (Jvm.Cond.selects "LoseLeague" ({ cls := "LoseLeague", name := "torn", desc := "()I" } : Jvm.MethodName) ({ cls := "LoseLeague", name := "torn", desc := "()I" } : Jvm.MethodName)) ∈ lw_all := lw_g (lw_at lw_m4 138 rfl) rfl
theorem q922 : (Jvm.Cond.code ({ cls := "LoseLeague", name := "torn", desc := "()I" } : Jvm.MethodName) prog_1_method_69_code (1 : Nat) (Option.some Jvm.ClassFile.FieldType.int)) ∈ lw_all := lw_g (lw_at lw_m4 139 rfl) rfl
theorem q924 : (Jvm.Cond.instanceMethod ({ cls := "LoseLeague", name := "count", desc := "(I)I" } : Jvm.MethodName)) ∈ lw_all := lw_g (lw_at lw_m4 141 rfl) rfl
theorem q925 : (Jvm.Cond.selects "LoseLeague" ({ cls := "LoseLeague", name := "count", desc := "(I)I" } : Jvm.MethodName) ({ cls := "LoseLeague", name := "count", desc := "(I)I" } : Jvm.MethodName)) ∈ lw_all := lw_g (lw_at lw_m4 142 rfl) rfl
theorem q926 : (Jvm.Cond.code ({ cls := "LoseLeague", name := "count", desc := "(I)I" } : Jvm.MethodName) prog_1_method_70_code (4 : Nat) (Option.some Jvm.ClassFile.FieldType.int)) ∈ lw_all := lw_g (lw_at lw_m4 143 rfl) rfl
theorem q927 : (Jvm.Cond.methodLink "LoseLeague" (350 : Nat) ({ cls := "java/lang/Integer", name := "bitCount", desc := "(I)I" } : Jvm.MethodName)) ∈ lw_all := lw_g (lw_at lw_m4 144 rfl) rfl
theorem in_X0 : ∀ w ∈ wsX00, w ∈ lw_all := lw_in wsX00 [198, 200, 202, 204, 206, 208, 210, 212, 214, 216, 218, 220, 222, 224, 226, 228, 230, 232, 234, 236, 238, 240, 242, 244, 246] (by decide +kernel) (by decide +kernel)
