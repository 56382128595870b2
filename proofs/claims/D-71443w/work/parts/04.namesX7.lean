/-! LoseLeagueModel -/
set_option maxRecDepth 100000
def RX7 : String := "LoseLeagueModel"
def TX7 : u_T := fun k => match k with
  | 0 => ("LoseLeagueModel", "state", "[I", true)
  | 1 => ("LoseLeagueModel", "townMany", "I", false)
  | 2 => ("LoseLeagueModel", "readPage", "[I", true)
  | 3 => ("LoseLeagueModel", "readTowns", "I", false)
  | 4 => ("LoseLeagueModel", "topTown", "I", false)
  | 5 => ("LoseLeagueModel", "tape", "[I", true)
  | 6 => ("LoseLeagueModel", "taped", "I", false)
  | 7 => ("LoseLeagueModel", "fault", "I", false)
  | 8 => ("LoseLeagueModel", "broken", "I", false)
  | 9 => ("LoseLeagueModel", "brokenAt", "I", false)
  | 10 => ("LoseLeagueModel", "spot", "I", false)
  | 11 => ("LoseLeagueModel", "here", "I", false)
  | 12 => ("LoseLeagueModel", "token", "I", false)
  | 13 => ("LoseLeagueModel", "value", "I", false)
  | 14 => ("LoseLeagueModel", "ends", "[I", true)
  | 15 => ("LoseLeagueModel", "letters", "[I", true)
  | 16 => ("LoseLeagueModel", "loser", "I", false)
  | 17 => ("LoseLeagueModel", "lost", "I", false)
  | 18 => ("LoseLeagueModel", "draws", "I", false)
  | 19 => ("LoseLeagueModel", "skipped", "I", false)
  | 20 => ("LoseLeagueModel", "bestRow", "[I", true)
  | 21 => ("LoseLeagueModel", "seen", "[I", true)
  | 22 => ("LoseLeagueModel", "seenMany", "I", false)
  | 23 => ("LoseLeagueModel", "loserBy", "[I", true)
  | 24 => ("LoseLeagueModel", "isKept", "[Z", true)
  | 25 => ("LoseLeagueModel", "lanes", "[I", true)
  | 26 => ("LoseLeagueModel", "lengths", "[I", true)
  | 27 => ("LoseLeagueModel", "cells", "[I", true)
  | _ => ("LoseLeagueModel", "torn", "I", false)
def tyX7 : Nat → FieldType := fun k => match k with
  | 0 => .array .int
  | 1 => .int
  | 2 => .array .int
  | 3 => .int
  | 4 => .int
  | 5 => .array .int
  | 6 => .int
  | 7 => .int
  | 8 => .int
  | 9 => .int
  | 10 => .int
  | 11 => .int
  | 12 => .int
  | 13 => .int
  | 14 => .array .int
  | 15 => .array .int
  | 16 => .int
  | 17 => .int
  | 18 => .int
  | 19 => .int
  | 20 => .array .int
  | 21 => .array .int
  | 22 => .int
  | 23 => .array .int
  | 24 => .array .boolean
  | 25 => .array .int
  | 26 => .array .int
  | 27 => .array .int
  | _ => .int
abbrev wsX70 : List Cond := u_ws RX7 TX7 29
set_option maxRecDepth 100000 in
theorem nmX7 : ∀ a, a < 29 → ∀ b, b < 29 → a ≠ b → (TX7 a).2.1 ≠ (TX7 b).2.1 := by decide +kernel
set_option maxRecDepth 100000 in
theorem tyX7_ok : ∀ k, k < 29 → parseFieldDescriptor (TX7 k).2.2.1 = some (tyX7 k) := by decide +kernel
abbrev cX7_init : ByteArray := prog_11_method_1_code
def yX7_init : MethodName := ⟨RX7, "<init>", "()V"⟩
def dkwX7_init_12 : List UInt8 := [16, 252, 79, 181, 0, 42, 42, 7, 188, 10, 181, 0, 45, 42, 17, 0, 160, 188, 10, 181, 0, 48, 177]
abbrev dktX7_init_12 : List UInt8 := dkwX7_init_12 ++ []
def dkwX7_init_11 : List UInt8 := [181, 0, 38, 42, 7, 188, 10, 89, 3, 16, 252, 79, 89, 4, 16, 252, 79, 89, 5, 16, 252, 79, 89, 6]
abbrev dktX7_init_11 : List UInt8 := dkwX7_init_11 ++ dktX7_init_12
def dkwX7_init_10 : List UInt8 := [181, 0, 29, 42, 16, 12, 188, 10, 181, 0, 32, 42, 17, 1, 185, 188, 10, 181, 0, 35, 42, 5, 188, 4]
abbrev dktX7_init_10 : List UInt8 := dkwX7_init_10 ++ dktX7_init_11
def dkwX7_init_9 : List UInt8 := [16, 109, 79, 89, 16, 25, 16, 101, 79, 181, 0, 22, 42, 16, 252, 181, 0, 25, 42, 8, 188, 10]
abbrev dktX7_init_9 : List UInt8 := dkwX7_init_9 ++ dktX7_init_10
def dkwX7_init_8 : List UInt8 := [16, 115, 79, 89, 16, 21, 16, 115, 79, 89, 16, 22, 16, 103, 79, 89, 16, 23, 16, 97, 79, 89, 16, 24]
abbrev dktX7_init_8 : List UInt8 := dkwX7_init_8 ++ dktX7_init_9
def dkwX7_init_7 : List UInt8 := [16, 114, 79, 89, 16, 17, 16, 101, 79, 89, 16, 18, 16, 108, 79, 89, 16, 19, 16, 101, 79, 89, 16, 20]
abbrev dktX7_init_7 : List UInt8 := dkwX7_init_7 ++ dktX7_init_8
def dkwX7_init_6 : List UInt8 := [16, 115, 79, 89, 16, 13, 16, 101, 79, 89, 16, 14, 16, 99, 79, 89, 16, 15, 16, 97, 79, 89, 16, 16]
abbrev dktX7_init_6 : List UInt8 := dkwX7_init_6 ++ dktX7_init_7
def dkwX7_init_5 : List UInt8 := [16, 117, 79, 89, 16, 9, 16, 100, 79, 89, 16, 10, 16, 119, 79, 89, 16, 11, 16, 105, 79, 89, 16, 12]
abbrev dktX7_init_5 : List UInt8 := dkwX7_init_5 ++ dktX7_init_6
def dkwX7_init_4 : List UInt8 := [16, 110, 79, 89, 8, 16, 112, 79, 89, 16, 6, 16, 114, 79, 89, 16, 7, 16, 111, 79, 89, 16, 8]
abbrev dktX7_init_4 : List UInt8 := dkwX7_init_4 ++ dktX7_init_5
def dkwX7_init_3 : List UInt8 := [188, 10, 89, 3, 16, 112, 79, 89, 4, 16, 108, 79, 89, 5, 16, 97, 79, 89, 6, 16, 105, 79, 89, 7]
abbrev dktX7_init_3 : List UInt8 := dkwX7_init_3 ++ dktX7_init_4
def dkwX7_init_2 : List UInt8 := [16, 10, 79, 89, 6, 16, 14, 79, 89, 7, 16, 22, 79, 89, 8, 16, 26, 79, 181, 0, 19, 42, 16, 26]
abbrev dktX7_init_2 : List UInt8 := dkwX7_init_2 ++ dktX7_init_3
def dkwX7_init_1 : List UInt8 := [17, 0, 160, 188, 10, 181, 0, 16, 42, 16, 6, 188, 10, 89, 3, 3, 79, 89, 4, 8, 79, 89, 5]
abbrev dktX7_init_1 : List UInt8 := dkwX7_init_1 ++ dktX7_init_2
def dkwX7_init_0 : List UInt8 := [42, 183, 0, 1, 42, 17, 0, 252, 188, 10, 181, 0, 7, 42, 16, 42, 188, 10, 181, 0, 13, 42]
abbrev dktX7_init_0 : List UInt8 := dkwX7_init_0 ++ dktX7_init_1
theorem dksX7_init_0 : cX7_init.data.toList.drop 0 = dktX7_init_0 := by decide +kernel
theorem dksX7_init_1 : cX7_init.data.toList.drop 22 = dktX7_init_1 := dk_seg dksX7_init_0 22 rfl rfl
theorem dksX7_init_2 : cX7_init.data.toList.drop 45 = dktX7_init_2 := dk_seg dksX7_init_1 23 rfl rfl
theorem dksX7_init_3 : cX7_init.data.toList.drop 69 = dktX7_init_3 := dk_seg dksX7_init_2 24 rfl rfl
theorem dksX7_init_4 : cX7_init.data.toList.drop 93 = dktX7_init_4 := dk_seg dksX7_init_3 24 rfl rfl
theorem dksX7_init_5 : cX7_init.data.toList.drop 116 = dktX7_init_5 := dk_seg dksX7_init_4 23 rfl rfl
theorem dksX7_init_6 : cX7_init.data.toList.drop 140 = dktX7_init_6 := dk_seg dksX7_init_5 24 rfl rfl
theorem dksX7_init_7 : cX7_init.data.toList.drop 164 = dktX7_init_7 := dk_seg dksX7_init_6 24 rfl rfl
theorem dksX7_init_8 : cX7_init.data.toList.drop 188 = dktX7_init_8 := dk_seg dksX7_init_7 24 rfl rfl
theorem dksX7_init_9 : cX7_init.data.toList.drop 212 = dktX7_init_9 := dk_seg dksX7_init_8 24 rfl rfl
theorem dksX7_init_10 : cX7_init.data.toList.drop 234 = dktX7_init_10 := dk_seg dksX7_init_9 22 rfl rfl
theorem dksX7_init_11 : cX7_init.data.toList.drop 258 = dktX7_init_11 := dk_seg dksX7_init_10 24 rfl rfl
theorem dksX7_init_12 : cX7_init.data.toList.drop 282 = dktX7_init_12 := dk_seg dksX7_init_11 24 rfl rfl
theorem dX7_init_0 : decode cX7_init 0 = .ok (.aload_n 0, 1) := dk_42 (dk_at dksX7_init_0 0 rfl rfl)
theorem dX7_init_1 : decode cX7_init 1 = .ok (.invokespecial 1, 3) := dk_183 0 1 (dk_at dksX7_init_0 1 rfl rfl)
theorem dX7_init_4 : decode cX7_init 4 = .ok (.aload_n 0, 1) := dk_42 (dk_at dksX7_init_0 4 rfl rfl)
theorem dX7_init_5 : decode cX7_init 5 = .ok (.sipush 252, 3) := dk_17 0 252 (dk_at dksX7_init_0 5 rfl rfl)
theorem dX7_init_8 : decode cX7_init 8 = .ok (.newarray .int, 2) := dk_188_10 (dk_at dksX7_init_0 8 rfl rfl)
theorem dX7_init_10 : decode cX7_init 10 = .ok (.putfield 7, 3) := dk_181 0 7 (dk_at dksX7_init_0 10 rfl rfl)
theorem dX7_init_13 : decode cX7_init 13 = .ok (.aload_n 0, 1) := dk_42 (dk_at dksX7_init_0 13 rfl rfl)
theorem dX7_init_14 : decode cX7_init 14 = .ok (.bipush 42, 2) := dk_16 42 (dk_at dksX7_init_0 14 rfl rfl)
theorem dX7_init_16 : decode cX7_init 16 = .ok (.newarray .int, 2) := dk_188_10 (dk_at dksX7_init_0 16 rfl rfl)
theorem dX7_init_18 : decode cX7_init 18 = .ok (.putfield 13, 3) := dk_181 0 13 (dk_at dksX7_init_0 18 rfl rfl)
theorem dX7_init_21 : decode cX7_init 21 = .ok (.aload_n 0, 1) := dk_42 (dk_at dksX7_init_0 21 rfl rfl)
theorem dX7_init_22 : decode cX7_init 22 = .ok (.sipush 160, 3) := dk_17 0 160 (dk_at dksX7_init_1 0 rfl rfl)
theorem dX7_init_25 : decode cX7_init 25 = .ok (.newarray .int, 2) := dk_188_10 (dk_at dksX7_init_1 3 rfl rfl)
theorem dX7_init_27 : decode cX7_init 27 = .ok (.putfield 16, 3) := dk_181 0 16 (dk_at dksX7_init_1 5 rfl rfl)
theorem dX7_init_30 : decode cX7_init 30 = .ok (.aload_n 0, 1) := dk_42 (dk_at dksX7_init_1 8 rfl rfl)
theorem dX7_init_31 : decode cX7_init 31 = .ok (.bipush 6, 2) := dk_16 6 (dk_at dksX7_init_1 9 rfl rfl)
theorem dX7_init_33 : decode cX7_init 33 = .ok (.newarray .int, 2) := dk_188_10 (dk_at dksX7_init_1 11 rfl rfl)
theorem dX7_init_35 : decode cX7_init 35 = .ok (.dup, 1) := dk_89 (dk_at dksX7_init_1 13 rfl rfl)
theorem dX7_init_36 : decode cX7_init 36 = .ok (.iconst 0, 1) := dk_3 (dk_at dksX7_init_1 14 rfl rfl)
theorem dX7_init_37 : decode cX7_init 37 = .ok (.iconst 0, 1) := dk_3 (dk_at dksX7_init_1 15 rfl rfl)
theorem dX7_init_38 : decode cX7_init 38 = .ok (.iastore, 1) := dk_79 (dk_at dksX7_init_1 16 rfl rfl)
theorem dX7_init_39 : decode cX7_init 39 = .ok (.dup, 1) := dk_89 (dk_at dksX7_init_1 17 rfl rfl)
theorem dX7_init_40 : decode cX7_init 40 = .ok (.iconst 1, 1) := dk_4 (dk_at dksX7_init_1 18 rfl rfl)
theorem dX7_init_41 : decode cX7_init 41 = .ok (.iconst 5, 1) := dk_8 (dk_at dksX7_init_1 19 rfl rfl)
theorem dX7_init_42 : decode cX7_init 42 = .ok (.iastore, 1) := dk_79 (dk_at dksX7_init_1 20 rfl rfl)
theorem dX7_init_43 : decode cX7_init 43 = .ok (.dup, 1) := dk_89 (dk_at dksX7_init_1 21 rfl rfl)
theorem dX7_init_44 : decode cX7_init 44 = .ok (.iconst 2, 1) := dk_5 (dk_at dksX7_init_1 22 rfl rfl)
theorem dX7_init_45 : decode cX7_init 45 = .ok (.bipush 10, 2) := dk_16 10 (dk_at dksX7_init_2 0 rfl rfl)
theorem dX7_init_47 : decode cX7_init 47 = .ok (.iastore, 1) := dk_79 (dk_at dksX7_init_2 2 rfl rfl)
theorem dX7_init_48 : decode cX7_init 48 = .ok (.dup, 1) := dk_89 (dk_at dksX7_init_2 3 rfl rfl)
theorem dX7_init_49 : decode cX7_init 49 = .ok (.iconst 3, 1) := dk_6 (dk_at dksX7_init_2 4 rfl rfl)
theorem dX7_init_50 : decode cX7_init 50 = .ok (.bipush 14, 2) := dk_16 14 (dk_at dksX7_init_2 5 rfl rfl)
theorem dX7_init_52 : decode cX7_init 52 = .ok (.iastore, 1) := dk_79 (dk_at dksX7_init_2 7 rfl rfl)
theorem dX7_init_53 : decode cX7_init 53 = .ok (.dup, 1) := dk_89 (dk_at dksX7_init_2 8 rfl rfl)
theorem dX7_init_54 : decode cX7_init 54 = .ok (.iconst 4, 1) := dk_7 (dk_at dksX7_init_2 9 rfl rfl)
theorem dX7_init_55 : decode cX7_init 55 = .ok (.bipush 22, 2) := dk_16 22 (dk_at dksX7_init_2 10 rfl rfl)
theorem dX7_init_57 : decode cX7_init 57 = .ok (.iastore, 1) := dk_79 (dk_at dksX7_init_2 12 rfl rfl)
theorem dX7_init_58 : decode cX7_init 58 = .ok (.dup, 1) := dk_89 (dk_at dksX7_init_2 13 rfl rfl)
theorem dX7_init_59 : decode cX7_init 59 = .ok (.iconst 5, 1) := dk_8 (dk_at dksX7_init_2 14 rfl rfl)
theorem dX7_init_60 : decode cX7_init 60 = .ok (.bipush 26, 2) := dk_16 26 (dk_at dksX7_init_2 15 rfl rfl)
theorem dX7_init_62 : decode cX7_init 62 = .ok (.iastore, 1) := dk_79 (dk_at dksX7_init_2 17 rfl rfl)
theorem dX7_init_63 : decode cX7_init 63 = .ok (.putfield 19, 3) := dk_181 0 19 (dk_at dksX7_init_2 18 rfl rfl)
theorem dX7_init_66 : decode cX7_init 66 = .ok (.aload_n 0, 1) := dk_42 (dk_at dksX7_init_2 21 rfl rfl)
theorem dX7_init_67 : decode cX7_init 67 = .ok (.bipush 26, 2) := dk_16 26 (dk_at dksX7_init_2 22 rfl rfl)
theorem dX7_init_69 : decode cX7_init 69 = .ok (.newarray .int, 2) := dk_188_10 (dk_at dksX7_init_3 0 rfl rfl)
theorem dX7_init_71 : decode cX7_init 71 = .ok (.dup, 1) := dk_89 (dk_at dksX7_init_3 2 rfl rfl)
theorem dX7_init_72 : decode cX7_init 72 = .ok (.iconst 0, 1) := dk_3 (dk_at dksX7_init_3 3 rfl rfl)
theorem dX7_init_73 : decode cX7_init 73 = .ok (.bipush 112, 2) := dk_16 112 (dk_at dksX7_init_3 4 rfl rfl)
theorem dX7_init_75 : decode cX7_init 75 = .ok (.iastore, 1) := dk_79 (dk_at dksX7_init_3 6 rfl rfl)
theorem dX7_init_76 : decode cX7_init 76 = .ok (.dup, 1) := dk_89 (dk_at dksX7_init_3 7 rfl rfl)
theorem dX7_init_77 : decode cX7_init 77 = .ok (.iconst 1, 1) := dk_4 (dk_at dksX7_init_3 8 rfl rfl)
theorem dX7_init_78 : decode cX7_init 78 = .ok (.bipush 108, 2) := dk_16 108 (dk_at dksX7_init_3 9 rfl rfl)
theorem dX7_init_80 : decode cX7_init 80 = .ok (.iastore, 1) := dk_79 (dk_at dksX7_init_3 11 rfl rfl)
theorem dX7_init_81 : decode cX7_init 81 = .ok (.dup, 1) := dk_89 (dk_at dksX7_init_3 12 rfl rfl)
theorem dX7_init_82 : decode cX7_init 82 = .ok (.iconst 2, 1) := dk_5 (dk_at dksX7_init_3 13 rfl rfl)
theorem dX7_init_83 : decode cX7_init 83 = .ok (.bipush 97, 2) := dk_16 97 (dk_at dksX7_init_3 14 rfl rfl)
theorem dX7_init_85 : decode cX7_init 85 = .ok (.iastore, 1) := dk_79 (dk_at dksX7_init_3 16 rfl rfl)
theorem dX7_init_86 : decode cX7_init 86 = .ok (.dup, 1) := dk_89 (dk_at dksX7_init_3 17 rfl rfl)
theorem dX7_init_87 : decode cX7_init 87 = .ok (.iconst 3, 1) := dk_6 (dk_at dksX7_init_3 18 rfl rfl)
theorem dX7_init_88 : decode cX7_init 88 = .ok (.bipush 105, 2) := dk_16 105 (dk_at dksX7_init_3 19 rfl rfl)
theorem dX7_init_90 : decode cX7_init 90 = .ok (.iastore, 1) := dk_79 (dk_at dksX7_init_3 21 rfl rfl)
theorem dX7_init_91 : decode cX7_init 91 = .ok (.dup, 1) := dk_89 (dk_at dksX7_init_3 22 rfl rfl)
theorem dX7_init_92 : decode cX7_init 92 = .ok (.iconst 4, 1) := dk_7 (dk_at dksX7_init_3 23 rfl rfl)
theorem dX7_init_93 : decode cX7_init 93 = .ok (.bipush 110, 2) := dk_16 110 (dk_at dksX7_init_4 0 rfl rfl)
theorem dX7_init_95 : decode cX7_init 95 = .ok (.iastore, 1) := dk_79 (dk_at dksX7_init_4 2 rfl rfl)
theorem dX7_init_96 : decode cX7_init 96 = .ok (.dup, 1) := dk_89 (dk_at dksX7_init_4 3 rfl rfl)
theorem dX7_init_97 : decode cX7_init 97 = .ok (.iconst 5, 1) := dk_8 (dk_at dksX7_init_4 4 rfl rfl)
theorem dX7_init_98 : decode cX7_init 98 = .ok (.bipush 112, 2) := dk_16 112 (dk_at dksX7_init_4 5 rfl rfl)
theorem dX7_init_100 : decode cX7_init 100 = .ok (.iastore, 1) := dk_79 (dk_at dksX7_init_4 7 rfl rfl)
theorem dX7_init_101 : decode cX7_init 101 = .ok (.dup, 1) := dk_89 (dk_at dksX7_init_4 8 rfl rfl)
theorem dX7_init_102 : decode cX7_init 102 = .ok (.bipush 6, 2) := dk_16 6 (dk_at dksX7_init_4 9 rfl rfl)
theorem dX7_init_104 : decode cX7_init 104 = .ok (.bipush 114, 2) := dk_16 114 (dk_at dksX7_init_4 11 rfl rfl)
theorem dX7_init_106 : decode cX7_init 106 = .ok (.iastore, 1) := dk_79 (dk_at dksX7_init_4 13 rfl rfl)
theorem dX7_init_107 : decode cX7_init 107 = .ok (.dup, 1) := dk_89 (dk_at dksX7_init_4 14 rfl rfl)
theorem dX7_init_108 : decode cX7_init 108 = .ok (.bipush 7, 2) := dk_16 7 (dk_at dksX7_init_4 15 rfl rfl)
theorem dX7_init_110 : decode cX7_init 110 = .ok (.bipush 111, 2) := dk_16 111 (dk_at dksX7_init_4 17 rfl rfl)
theorem dX7_init_112 : decode cX7_init 112 = .ok (.iastore, 1) := dk_79 (dk_at dksX7_init_4 19 rfl rfl)
theorem dX7_init_113 : decode cX7_init 113 = .ok (.dup, 1) := dk_89 (dk_at dksX7_init_4 20 rfl rfl)
theorem dX7_init_114 : decode cX7_init 114 = .ok (.bipush 8, 2) := dk_16 8 (dk_at dksX7_init_4 21 rfl rfl)
theorem dX7_init_116 : decode cX7_init 116 = .ok (.bipush 117, 2) := dk_16 117 (dk_at dksX7_init_5 0 rfl rfl)
theorem dX7_init_118 : decode cX7_init 118 = .ok (.iastore, 1) := dk_79 (dk_at dksX7_init_5 2 rfl rfl)
theorem dX7_init_119 : decode cX7_init 119 = .ok (.dup, 1) := dk_89 (dk_at dksX7_init_5 3 rfl rfl)
theorem dX7_init_120 : decode cX7_init 120 = .ok (.bipush 9, 2) := dk_16 9 (dk_at dksX7_init_5 4 rfl rfl)
theorem dX7_init_122 : decode cX7_init 122 = .ok (.bipush 100, 2) := dk_16 100 (dk_at dksX7_init_5 6 rfl rfl)
theorem dX7_init_124 : decode cX7_init 124 = .ok (.iastore, 1) := dk_79 (dk_at dksX7_init_5 8 rfl rfl)
theorem dX7_init_125 : decode cX7_init 125 = .ok (.dup, 1) := dk_89 (dk_at dksX7_init_5 9 rfl rfl)
theorem dX7_init_126 : decode cX7_init 126 = .ok (.bipush 10, 2) := dk_16 10 (dk_at dksX7_init_5 10 rfl rfl)
theorem dX7_init_128 : decode cX7_init 128 = .ok (.bipush 119, 2) := dk_16 119 (dk_at dksX7_init_5 12 rfl rfl)
theorem dX7_init_130 : decode cX7_init 130 = .ok (.iastore, 1) := dk_79 (dk_at dksX7_init_5 14 rfl rfl)
theorem dX7_init_131 : decode cX7_init 131 = .ok (.dup, 1) := dk_89 (dk_at dksX7_init_5 15 rfl rfl)
theorem dX7_init_132 : decode cX7_init 132 = .ok (.bipush 11, 2) := dk_16 11 (dk_at dksX7_init_5 16 rfl rfl)
theorem dX7_init_134 : decode cX7_init 134 = .ok (.bipush 105, 2) := dk_16 105 (dk_at dksX7_init_5 18 rfl rfl)
theorem dX7_init_136 : decode cX7_init 136 = .ok (.iastore, 1) := dk_79 (dk_at dksX7_init_5 20 rfl rfl)
theorem dX7_init_137 : decode cX7_init 137 = .ok (.dup, 1) := dk_89 (dk_at dksX7_init_5 21 rfl rfl)
theorem dX7_init_138 : decode cX7_init 138 = .ok (.bipush 12, 2) := dk_16 12 (dk_at dksX7_init_5 22 rfl rfl)
theorem dX7_init_140 : decode cX7_init 140 = .ok (.bipush 115, 2) := dk_16 115 (dk_at dksX7_init_6 0 rfl rfl)
theorem dX7_init_142 : decode cX7_init 142 = .ok (.iastore, 1) := dk_79 (dk_at dksX7_init_6 2 rfl rfl)
theorem dX7_init_143 : decode cX7_init 143 = .ok (.dup, 1) := dk_89 (dk_at dksX7_init_6 3 rfl rfl)
theorem dX7_init_144 : decode cX7_init 144 = .ok (.bipush 13, 2) := dk_16 13 (dk_at dksX7_init_6 4 rfl rfl)
theorem dX7_init_146 : decode cX7_init 146 = .ok (.bipush 101, 2) := dk_16 101 (dk_at dksX7_init_6 6 rfl rfl)
theorem dX7_init_148 : decode cX7_init 148 = .ok (.iastore, 1) := dk_79 (dk_at dksX7_init_6 8 rfl rfl)
theorem dX7_init_149 : decode cX7_init 149 = .ok (.dup, 1) := dk_89 (dk_at dksX7_init_6 9 rfl rfl)
theorem dX7_init_150 : decode cX7_init 150 = .ok (.bipush 14, 2) := dk_16 14 (dk_at dksX7_init_6 10 rfl rfl)
theorem dX7_init_152 : decode cX7_init 152 = .ok (.bipush 99, 2) := dk_16 99 (dk_at dksX7_init_6 12 rfl rfl)
theorem dX7_init_154 : decode cX7_init 154 = .ok (.iastore, 1) := dk_79 (dk_at dksX7_init_6 14 rfl rfl)
theorem dX7_init_155 : decode cX7_init 155 = .ok (.dup, 1) := dk_89 (dk_at dksX7_init_6 15 rfl rfl)
theorem dX7_init_156 : decode cX7_init 156 = .ok (.bipush 15, 2) := dk_16 15 (dk_at dksX7_init_6 16 rfl rfl)
theorem dX7_init_158 : decode cX7_init 158 = .ok (.bipush 97, 2) := dk_16 97 (dk_at dksX7_init_6 18 rfl rfl)
theorem dX7_init_160 : decode cX7_init 160 = .ok (.iastore, 1) := dk_79 (dk_at dksX7_init_6 20 rfl rfl)
theorem dX7_init_161 : decode cX7_init 161 = .ok (.dup, 1) := dk_89 (dk_at dksX7_init_6 21 rfl rfl)
theorem dX7_init_162 : decode cX7_init 162 = .ok (.bipush 16, 2) := dk_16 16 (dk_at dksX7_init_6 22 rfl rfl)
theorem dX7_init_164 : decode cX7_init 164 = .ok (.bipush 114, 2) := dk_16 114 (dk_at dksX7_init_7 0 rfl rfl)
theorem dX7_init_166 : decode cX7_init 166 = .ok (.iastore, 1) := dk_79 (dk_at dksX7_init_7 2 rfl rfl)
theorem dX7_init_167 : decode cX7_init 167 = .ok (.dup, 1) := dk_89 (dk_at dksX7_init_7 3 rfl rfl)
theorem dX7_init_168 : decode cX7_init 168 = .ok (.bipush 17, 2) := dk_16 17 (dk_at dksX7_init_7 4 rfl rfl)
theorem dX7_init_170 : decode cX7_init 170 = .ok (.bipush 101, 2) := dk_16 101 (dk_at dksX7_init_7 6 rfl rfl)
theorem dX7_init_172 : decode cX7_init 172 = .ok (.iastore, 1) := dk_79 (dk_at dksX7_init_7 8 rfl rfl)
theorem dX7_init_173 : decode cX7_init 173 = .ok (.dup, 1) := dk_89 (dk_at dksX7_init_7 9 rfl rfl)
theorem dX7_init_174 : decode cX7_init 174 = .ok (.bipush 18, 2) := dk_16 18 (dk_at dksX7_init_7 10 rfl rfl)
theorem dX7_init_176 : decode cX7_init 176 = .ok (.bipush 108, 2) := dk_16 108 (dk_at dksX7_init_7 12 rfl rfl)
theorem dX7_init_178 : decode cX7_init 178 = .ok (.iastore, 1) := dk_79 (dk_at dksX7_init_7 14 rfl rfl)
theorem dX7_init_179 : decode cX7_init 179 = .ok (.dup, 1) := dk_89 (dk_at dksX7_init_7 15 rfl rfl)
theorem dX7_init_180 : decode cX7_init 180 = .ok (.bipush 19, 2) := dk_16 19 (dk_at dksX7_init_7 16 rfl rfl)
theorem dX7_init_182 : decode cX7_init 182 = .ok (.bipush 101, 2) := dk_16 101 (dk_at dksX7_init_7 18 rfl rfl)
theorem dX7_init_184 : decode cX7_init 184 = .ok (.iastore, 1) := dk_79 (dk_at dksX7_init_7 20 rfl rfl)
theorem dX7_init_185 : decode cX7_init 185 = .ok (.dup, 1) := dk_89 (dk_at dksX7_init_7 21 rfl rfl)
theorem dX7_init_186 : decode cX7_init 186 = .ok (.bipush 20, 2) := dk_16 20 (dk_at dksX7_init_7 22 rfl rfl)
theorem dX7_init_188 : decode cX7_init 188 = .ok (.bipush 115, 2) := dk_16 115 (dk_at dksX7_init_8 0 rfl rfl)
theorem dX7_init_190 : decode cX7_init 190 = .ok (.iastore, 1) := dk_79 (dk_at dksX7_init_8 2 rfl rfl)
theorem dX7_init_191 : decode cX7_init 191 = .ok (.dup, 1) := dk_89 (dk_at dksX7_init_8 3 rfl rfl)
theorem dX7_init_192 : decode cX7_init 192 = .ok (.bipush 21, 2) := dk_16 21 (dk_at dksX7_init_8 4 rfl rfl)
theorem dX7_init_194 : decode cX7_init 194 = .ok (.bipush 115, 2) := dk_16 115 (dk_at dksX7_init_8 6 rfl rfl)
theorem dX7_init_196 : decode cX7_init 196 = .ok (.iastore, 1) := dk_79 (dk_at dksX7_init_8 8 rfl rfl)
theorem dX7_init_197 : decode cX7_init 197 = .ok (.dup, 1) := dk_89 (dk_at dksX7_init_8 9 rfl rfl)
theorem dX7_init_198 : decode cX7_init 198 = .ok (.bipush 22, 2) := dk_16 22 (dk_at dksX7_init_8 10 rfl rfl)
theorem dX7_init_200 : decode cX7_init 200 = .ok (.bipush 103, 2) := dk_16 103 (dk_at dksX7_init_8 12 rfl rfl)
theorem dX7_init_202 : decode cX7_init 202 = .ok (.iastore, 1) := dk_79 (dk_at dksX7_init_8 14 rfl rfl)
theorem dX7_init_203 : decode cX7_init 203 = .ok (.dup, 1) := dk_89 (dk_at dksX7_init_8 15 rfl rfl)
theorem dX7_init_204 : decode cX7_init 204 = .ok (.bipush 23, 2) := dk_16 23 (dk_at dksX7_init_8 16 rfl rfl)
theorem dX7_init_206 : decode cX7_init 206 = .ok (.bipush 97, 2) := dk_16 97 (dk_at dksX7_init_8 18 rfl rfl)
theorem dX7_init_208 : decode cX7_init 208 = .ok (.iastore, 1) := dk_79 (dk_at dksX7_init_8 20 rfl rfl)
theorem dX7_init_209 : decode cX7_init 209 = .ok (.dup, 1) := dk_89 (dk_at dksX7_init_8 21 rfl rfl)
theorem dX7_init_210 : decode cX7_init 210 = .ok (.bipush 24, 2) := dk_16 24 (dk_at dksX7_init_8 22 rfl rfl)
theorem dX7_init_212 : decode cX7_init 212 = .ok (.bipush 109, 2) := dk_16 109 (dk_at dksX7_init_9 0 rfl rfl)
theorem dX7_init_214 : decode cX7_init 214 = .ok (.iastore, 1) := dk_79 (dk_at dksX7_init_9 2 rfl rfl)
theorem dX7_init_215 : decode cX7_init 215 = .ok (.dup, 1) := dk_89 (dk_at dksX7_init_9 3 rfl rfl)
theorem dX7_init_216 : decode cX7_init 216 = .ok (.bipush 25, 2) := dk_16 25 (dk_at dksX7_init_9 4 rfl rfl)
theorem dX7_init_218 : decode cX7_init 218 = .ok (.bipush 101, 2) := dk_16 101 (dk_at dksX7_init_9 6 rfl rfl)
theorem dX7_init_220 : decode cX7_init 220 = .ok (.iastore, 1) := dk_79 (dk_at dksX7_init_9 8 rfl rfl)
theorem dX7_init_221 : decode cX7_init 221 = .ok (.putfield 22, 3) := dk_181 0 22 (dk_at dksX7_init_9 9 rfl rfl)
theorem dX7_init_224 : decode cX7_init 224 = .ok (.aload_n 0, 1) := dk_42 (dk_at dksX7_init_9 12 rfl rfl)
theorem dX7_init_225 : decode cX7_init 225 = .ok (.bipush (-4), 2) := dk_16 252 (dk_at dksX7_init_9 13 rfl rfl)
theorem dX7_init_227 : decode cX7_init 227 = .ok (.putfield 25, 3) := dk_181 0 25 (dk_at dksX7_init_9 15 rfl rfl)
theorem dX7_init_230 : decode cX7_init 230 = .ok (.aload_n 0, 1) := dk_42 (dk_at dksX7_init_9 18 rfl rfl)
theorem dX7_init_231 : decode cX7_init 231 = .ok (.iconst 5, 1) := dk_8 (dk_at dksX7_init_9 19 rfl rfl)
theorem dX7_init_232 : decode cX7_init 232 = .ok (.newarray .int, 2) := dk_188_10 (dk_at dksX7_init_9 20 rfl rfl)
theorem dX7_init_234 : decode cX7_init 234 = .ok (.putfield 29, 3) := dk_181 0 29 (dk_at dksX7_init_10 0 rfl rfl)
theorem dX7_init_237 : decode cX7_init 237 = .ok (.aload_n 0, 1) := dk_42 (dk_at dksX7_init_10 3 rfl rfl)
theorem dX7_init_238 : decode cX7_init 238 = .ok (.bipush 12, 2) := dk_16 12 (dk_at dksX7_init_10 4 rfl rfl)
theorem dX7_init_240 : decode cX7_init 240 = .ok (.newarray .int, 2) := dk_188_10 (dk_at dksX7_init_10 6 rfl rfl)
theorem dX7_init_242 : decode cX7_init 242 = .ok (.putfield 32, 3) := dk_181 0 32 (dk_at dksX7_init_10 8 rfl rfl)
theorem dX7_init_245 : decode cX7_init 245 = .ok (.aload_n 0, 1) := dk_42 (dk_at dksX7_init_10 11 rfl rfl)
theorem dX7_init_246 : decode cX7_init 246 = .ok (.sipush 441, 3) := dk_17 1 185 (dk_at dksX7_init_10 12 rfl rfl)
theorem dX7_init_249 : decode cX7_init 249 = .ok (.newarray .int, 2) := dk_188_10 (dk_at dksX7_init_10 15 rfl rfl)
theorem dX7_init_251 : decode cX7_init 251 = .ok (.putfield 35, 3) := dk_181 0 35 (dk_at dksX7_init_10 17 rfl rfl)
theorem dX7_init_254 : decode cX7_init 254 = .ok (.aload_n 0, 1) := dk_42 (dk_at dksX7_init_10 20 rfl rfl)
theorem dX7_init_255 : decode cX7_init 255 = .ok (.iconst 2, 1) := dk_5 (dk_at dksX7_init_10 21 rfl rfl)
theorem dX7_init_256 : decode cX7_init 256 = .ok (.newarray .boolean, 2) := dk_188_4 (dk_at dksX7_init_10 22 rfl rfl)
theorem dX7_init_258 : decode cX7_init 258 = .ok (.putfield 38, 3) := dk_181 0 38 (dk_at dksX7_init_11 0 rfl rfl)
theorem dX7_init_261 : decode cX7_init 261 = .ok (.aload_n 0, 1) := dk_42 (dk_at dksX7_init_11 3 rfl rfl)
theorem dX7_init_262 : decode cX7_init 262 = .ok (.iconst 4, 1) := dk_7 (dk_at dksX7_init_11 4 rfl rfl)
theorem dX7_init_263 : decode cX7_init 263 = .ok (.newarray .int, 2) := dk_188_10 (dk_at dksX7_init_11 5 rfl rfl)
theorem dX7_init_265 : decode cX7_init 265 = .ok (.dup, 1) := dk_89 (dk_at dksX7_init_11 7 rfl rfl)
theorem dX7_init_266 : decode cX7_init 266 = .ok (.iconst 0, 1) := dk_3 (dk_at dksX7_init_11 8 rfl rfl)
theorem dX7_init_267 : decode cX7_init 267 = .ok (.bipush (-4), 2) := dk_16 252 (dk_at dksX7_init_11 9 rfl rfl)
theorem dX7_init_269 : decode cX7_init 269 = .ok (.iastore, 1) := dk_79 (dk_at dksX7_init_11 11 rfl rfl)
theorem dX7_init_270 : decode cX7_init 270 = .ok (.dup, 1) := dk_89 (dk_at dksX7_init_11 12 rfl rfl)
theorem dX7_init_271 : decode cX7_init 271 = .ok (.iconst 1, 1) := dk_4 (dk_at dksX7_init_11 13 rfl rfl)
theorem dX7_init_272 : decode cX7_init 272 = .ok (.bipush (-4), 2) := dk_16 252 (dk_at dksX7_init_11 14 rfl rfl)
theorem dX7_init_274 : decode cX7_init 274 = .ok (.iastore, 1) := dk_79 (dk_at dksX7_init_11 16 rfl rfl)
theorem dX7_init_275 : decode cX7_init 275 = .ok (.dup, 1) := dk_89 (dk_at dksX7_init_11 17 rfl rfl)
theorem dX7_init_276 : decode cX7_init 276 = .ok (.iconst 2, 1) := dk_5 (dk_at dksX7_init_11 18 rfl rfl)
theorem dX7_init_277 : decode cX7_init 277 = .ok (.bipush (-4), 2) := dk_16 252 (dk_at dksX7_init_11 19 rfl rfl)
theorem dX7_init_279 : decode cX7_init 279 = .ok (.iastore, 1) := dk_79 (dk_at dksX7_init_11 21 rfl rfl)
theorem dX7_init_280 : decode cX7_init 280 = .ok (.dup, 1) := dk_89 (dk_at dksX7_init_11 22 rfl rfl)
theorem dX7_init_281 : decode cX7_init 281 = .ok (.iconst 3, 1) := dk_6 (dk_at dksX7_init_11 23 rfl rfl)
theorem dX7_init_282 : decode cX7_init 282 = .ok (.bipush (-4), 2) := dk_16 252 (dk_at dksX7_init_12 0 rfl rfl)
theorem dX7_init_284 : decode cX7_init 284 = .ok (.iastore, 1) := dk_79 (dk_at dksX7_init_12 2 rfl rfl)
theorem dX7_init_285 : decode cX7_init 285 = .ok (.putfield 42, 3) := dk_181 0 42 (dk_at dksX7_init_12 3 rfl rfl)
theorem dX7_init_288 : decode cX7_init 288 = .ok (.aload_n 0, 1) := dk_42 (dk_at dksX7_init_12 6 rfl rfl)
theorem dX7_init_289 : decode cX7_init 289 = .ok (.iconst 4, 1) := dk_7 (dk_at dksX7_init_12 7 rfl rfl)
theorem dX7_init_290 : decode cX7_init 290 = .ok (.newarray .int, 2) := dk_188_10 (dk_at dksX7_init_12 8 rfl rfl)
theorem dX7_init_292 : decode cX7_init 292 = .ok (.putfield 45, 3) := dk_181 0 45 (dk_at dksX7_init_12 10 rfl rfl)
theorem dX7_init_295 : decode cX7_init 295 = .ok (.aload_n 0, 1) := dk_42 (dk_at dksX7_init_12 13 rfl rfl)
theorem dX7_init_296 : decode cX7_init 296 = .ok (.sipush 160, 3) := dk_17 0 160 (dk_at dksX7_init_12 14 rfl rfl)
theorem dX7_init_299 : decode cX7_init 299 = .ok (.newarray .int, 2) := dk_188_10 (dk_at dksX7_init_12 17 rfl rfl)
theorem dX7_init_301 : decode cX7_init 301 = .ok (.putfield 48, 3) := dk_181 0 48 (dk_at dksX7_init_12 19 rfl rfl)
theorem dX7_init_304 : decode cX7_init 304 = .ok (.return_, 1) := dk_177 (dk_at dksX7_init_12 22 rfl rfl)
abbrev cX7_feed : ByteArray := prog_11_method_4_code
def yX7_feed : MethodName := ⟨RX7, "feed", "(I)I"⟩
def dkwX7_feed_2 : List UInt8 := [180, 0, 57, 172]
abbrev dktX7_feed_2 : List UInt8 := dkwX7_feed_2 ++ []
def dkwX7_feed_1 : List UInt8 := [16, 253, 172, 42, 180, 0, 16, 42, 180, 0, 57, 27, 79, 42, 89, 180, 0, 57, 4, 96, 181, 0, 57, 42]
abbrev dktX7_feed_1 : List UInt8 := dkwX7_feed_1 ++ dktX7_feed_2
def dkwX7_feed_0 : List UInt8 := [27, 133, 9, 20, 0, 51, 184, 0, 53, 154, 0, 5, 2, 172, 42, 180, 0, 57, 17, 0, 160, 160, 0, 6]
abbrev dktX7_feed_0 : List UInt8 := dkwX7_feed_0 ++ dktX7_feed_1
theorem dksX7_feed_0 : cX7_feed.data.toList.drop 0 = dktX7_feed_0 := by decide +kernel
theorem dksX7_feed_1 : cX7_feed.data.toList.drop 24 = dktX7_feed_1 := dk_seg dksX7_feed_0 24 rfl rfl
theorem dksX7_feed_2 : cX7_feed.data.toList.drop 48 = dktX7_feed_2 := dk_seg dksX7_feed_1 24 rfl rfl
theorem dX7_feed_0 : decode cX7_feed 0 = .ok (.iload_n 1, 1) := dk_27 (dk_at dksX7_feed_0 0 rfl rfl)
theorem dX7_feed_1 : decode cX7_feed 1 = .ok (.i2l, 1) := dk_133 (dk_at dksX7_feed_0 1 rfl rfl)
theorem dX7_feed_2 : decode cX7_feed 2 = .ok (.lconst 0, 1) := dk_9 (dk_at dksX7_feed_0 2 rfl rfl)
theorem dX7_feed_3 : decode cX7_feed 3 = .ok (.ldc2_w 51, 3) := dk_20 0 51 (dk_at dksX7_feed_0 3 rfl rfl)
theorem dX7_feed_6 : decode cX7_feed 6 = .ok (.invokestatic 53, 3) := dk_184 0 53 (dk_at dksX7_feed_0 6 rfl rfl)
theorem dX7_feed_9 : decode cX7_feed 9 = .ok (.ifCond .ne 5, 3) := dk_154 0 5 (dk_at dksX7_feed_0 9 rfl rfl)
theorem dX7_feed_12 : decode cX7_feed 12 = .ok (.iconst (-1), 1) := dk_2 (dk_at dksX7_feed_0 12 rfl rfl)
theorem dX7_feed_13 : decode cX7_feed 13 = .ok (.ireturn, 1) := dk_172 (dk_at dksX7_feed_0 13 rfl rfl)
theorem dX7_feed_14 : decode cX7_feed 14 = .ok (.aload_n 0, 1) := dk_42 (dk_at dksX7_feed_0 14 rfl rfl)
theorem dX7_feed_15 : decode cX7_feed 15 = .ok (.getfield 57, 3) := dk_180 0 57 (dk_at dksX7_feed_0 15 rfl rfl)
theorem dX7_feed_18 : decode cX7_feed 18 = .ok (.sipush 160, 3) := dk_17 0 160 (dk_at dksX7_feed_0 18 rfl rfl)
theorem dX7_feed_21 : decode cX7_feed 21 = .ok (.if_icmp .ne 6, 3) := dk_160 0 6 (dk_at dksX7_feed_0 21 rfl rfl)
theorem dX7_feed_24 : decode cX7_feed 24 = .ok (.bipush (-3), 2) := dk_16 253 (dk_at dksX7_feed_1 0 rfl rfl)
theorem dX7_feed_26 : decode cX7_feed 26 = .ok (.ireturn, 1) := dk_172 (dk_at dksX7_feed_1 2 rfl rfl)
theorem dX7_feed_27 : decode cX7_feed 27 = .ok (.aload_n 0, 1) := dk_42 (dk_at dksX7_feed_1 3 rfl rfl)
theorem dX7_feed_28 : decode cX7_feed 28 = .ok (.getfield 16, 3) := dk_180 0 16 (dk_at dksX7_feed_1 4 rfl rfl)
theorem dX7_feed_31 : decode cX7_feed 31 = .ok (.aload_n 0, 1) := dk_42 (dk_at dksX7_feed_1 7 rfl rfl)
theorem dX7_feed_32 : decode cX7_feed 32 = .ok (.getfield 57, 3) := dk_180 0 57 (dk_at dksX7_feed_1 8 rfl rfl)
theorem dX7_feed_35 : decode cX7_feed 35 = .ok (.iload_n 1, 1) := dk_27 (dk_at dksX7_feed_1 11 rfl rfl)
theorem dX7_feed_36 : decode cX7_feed 36 = .ok (.iastore, 1) := dk_79 (dk_at dksX7_feed_1 12 rfl rfl)
theorem dX7_feed_37 : decode cX7_feed 37 = .ok (.aload_n 0, 1) := dk_42 (dk_at dksX7_feed_1 13 rfl rfl)
theorem dX7_feed_38 : decode cX7_feed 38 = .ok (.dup, 1) := dk_89 (dk_at dksX7_feed_1 14 rfl rfl)
theorem dX7_feed_39 : decode cX7_feed 39 = .ok (.getfield 57, 3) := dk_180 0 57 (dk_at dksX7_feed_1 15 rfl rfl)
theorem dX7_feed_42 : decode cX7_feed 42 = .ok (.iconst 1, 1) := dk_4 (dk_at dksX7_feed_1 18 rfl rfl)
theorem dX7_feed_43 : decode cX7_feed 43 = .ok (.iadd, 1) := dk_96 (dk_at dksX7_feed_1 19 rfl rfl)
theorem dX7_feed_44 : decode cX7_feed 44 = .ok (.putfield 57, 3) := dk_181 0 57 (dk_at dksX7_feed_1 20 rfl rfl)
theorem dX7_feed_47 : decode cX7_feed 47 = .ok (.aload_n 0, 1) := dk_42 (dk_at dksX7_feed_1 23 rfl rfl)
theorem dX7_feed_48 : decode cX7_feed 48 = .ok (.getfield 57, 3) := dk_180 0 57 (dk_at dksX7_feed_2 0 rfl rfl)
theorem dX7_feed_51 : decode cX7_feed 51 = .ok (.ireturn, 1) := dk_172 (dk_at dksX7_feed_2 3 rfl rfl)
abbrev cX7_in : ByteArray := prog_11_method_3_code
def yX7_in : MethodName := ⟨RX7, "in", "(JJJ)Z"⟩
def dkwX7_in_0 : List UInt8 := [30, 32, 148, 155, 0, 14, 30, 22, 4, 148, 157, 0, 7, 4, 167, 0, 4, 3, 172]
abbrev dktX7_in_0 : List UInt8 := dkwX7_in_0 ++ []
theorem dksX7_in_0 : cX7_in.data.toList.drop 0 = dktX7_in_0 := by decide +kernel
theorem dX7_in_0 : decode cX7_in 0 = .ok (.lload_n 0, 1) := dk_30 (dk_at dksX7_in_0 0 rfl rfl)
theorem dX7_in_1 : decode cX7_in 1 = .ok (.lload_n 2, 1) := dk_32 (dk_at dksX7_in_0 1 rfl rfl)
theorem dX7_in_2 : decode cX7_in 2 = .ok (.lcmp, 1) := dk_148 (dk_at dksX7_in_0 2 rfl rfl)
theorem dX7_in_3 : decode cX7_in 3 = .ok (.ifCond .lt 14, 3) := dk_155 0 14 (dk_at dksX7_in_0 3 rfl rfl)
theorem dX7_in_6 : decode cX7_in 6 = .ok (.lload_n 0, 1) := dk_30 (dk_at dksX7_in_0 6 rfl rfl)
theorem dX7_in_7 : decode cX7_in 7 = .ok (.lload 4, 2) := dk_22 4 (dk_at dksX7_in_0 7 rfl rfl)
theorem dX7_in_9 : decode cX7_in 9 = .ok (.lcmp, 1) := dk_148 (dk_at dksX7_in_0 9 rfl rfl)
theorem dX7_in_10 : decode cX7_in 10 = .ok (.ifCond .gt 7, 3) := dk_157 0 7 (dk_at dksX7_in_0 10 rfl rfl)
theorem dX7_in_13 : decode cX7_in 13 = .ok (.iconst 1, 1) := dk_4 (dk_at dksX7_in_0 13 rfl rfl)
theorem dX7_in_14 : decode cX7_in 14 = .ok (.goto 4, 3) := dk_167 0 4 (dk_at dksX7_in_0 14 rfl rfl)
theorem dX7_in_17 : decode cX7_in 17 = .ok (.iconst 0, 1) := dk_3 (dk_at dksX7_in_0 17 rfl rfl)
theorem dX7_in_18 : decode cX7_in 18 = .ok (.ireturn, 1) := dk_172 (dk_at dksX7_in_0 18 rfl rfl)
abbrev cX7_end : ByteArray := prog_11_method_5_code
def yX7_end : MethodName := ⟨RX7, "end", "(I)I"⟩
def dkwX7_end_1 : List UInt8 := [181, 0, 57, 28, 172]
abbrev dktX7_end_1 : List UInt8 := dkwX7_end_1 ++ []
def dkwX7_end_0 : List UInt8 := [27, 133, 9, 42, 180, 0, 57, 133, 184, 0, 53, 154, 0, 5, 2, 172, 42, 180, 0, 57, 61, 42, 27]
abbrev dktX7_end_0 : List UInt8 := dkwX7_end_0 ++ dktX7_end_1
theorem dksX7_end_0 : cX7_end.data.toList.drop 0 = dktX7_end_0 := by decide +kernel
theorem dksX7_end_1 : cX7_end.data.toList.drop 23 = dktX7_end_1 := dk_seg dksX7_end_0 23 rfl rfl
theorem dX7_end_0 : decode cX7_end 0 = .ok (.iload_n 1, 1) := dk_27 (dk_at dksX7_end_0 0 rfl rfl)
theorem dX7_end_1 : decode cX7_end 1 = .ok (.i2l, 1) := dk_133 (dk_at dksX7_end_0 1 rfl rfl)
theorem dX7_end_2 : decode cX7_end 2 = .ok (.lconst 0, 1) := dk_9 (dk_at dksX7_end_0 2 rfl rfl)
theorem dX7_end_3 : decode cX7_end 3 = .ok (.aload_n 0, 1) := dk_42 (dk_at dksX7_end_0 3 rfl rfl)
theorem dX7_end_4 : decode cX7_end 4 = .ok (.getfield 57, 3) := dk_180 0 57 (dk_at dksX7_end_0 4 rfl rfl)
theorem dX7_end_7 : decode cX7_end 7 = .ok (.i2l, 1) := dk_133 (dk_at dksX7_end_0 7 rfl rfl)
theorem dX7_end_8 : decode cX7_end 8 = .ok (.invokestatic 53, 3) := dk_184 0 53 (dk_at dksX7_end_0 8 rfl rfl)
theorem dX7_end_11 : decode cX7_end 11 = .ok (.ifCond .ne 5, 3) := dk_154 0 5 (dk_at dksX7_end_0 11 rfl rfl)
theorem dX7_end_14 : decode cX7_end 14 = .ok (.iconst (-1), 1) := dk_2 (dk_at dksX7_end_0 14 rfl rfl)
theorem dX7_end_15 : decode cX7_end 15 = .ok (.ireturn, 1) := dk_172 (dk_at dksX7_end_0 15 rfl rfl)
theorem dX7_end_16 : decode cX7_end 16 = .ok (.aload_n 0, 1) := dk_42 (dk_at dksX7_end_0 16 rfl rfl)
theorem dX7_end_17 : decode cX7_end 17 = .ok (.getfield 57, 3) := dk_180 0 57 (dk_at dksX7_end_0 17 rfl rfl)
theorem dX7_end_20 : decode cX7_end 20 = .ok (.istore_n 2, 1) := dk_61 (dk_at dksX7_end_0 20 rfl rfl)
theorem dX7_end_21 : decode cX7_end 21 = .ok (.aload_n 0, 1) := dk_42 (dk_at dksX7_end_0 21 rfl rfl)
theorem dX7_end_22 : decode cX7_end 22 = .ok (.iload_n 1, 1) := dk_27 (dk_at dksX7_end_0 22 rfl rfl)
theorem dX7_end_23 : decode cX7_end 23 = .ok (.putfield 57, 3) := dk_181 0 57 (dk_at dksX7_end_1 0 rfl rfl)
theorem dX7_end_26 : decode cX7_end 26 = .ok (.iload_n 2, 1) := dk_28 (dk_at dksX7_end_1 3 rfl rfl)
theorem dX7_end_27 : decode cX7_end 27 = .ok (.ireturn, 1) := dk_172 (dk_at dksX7_end_1 4 rfl rfl)
abbrev cX7_text : ByteArray := prog_11_method_14_code
def yX7_text : MethodName := ⟨RX7, "text", "()I"⟩
def dkwX7_text_7 : List UInt8 := [3, 3, 84, 42, 180, 0, 38, 4, 3, 84, 27, 172]
abbrev dktX7_text_7 : List UInt8 := dkwX7_text_7 ++ []
def dkwX7_text_6 : List UInt8 := [79, 132, 2, 1, 167, 255, 235, 42, 42, 180, 0, 104, 181, 0, 125, 42, 3, 181, 0, 128, 42, 180, 0, 38]
abbrev dktX7_text_6 : List UInt8 := dkwX7_text_6 ++ dktX7_text_7
def dkwX7_text_5 : List UInt8 := [180, 0, 66, 100, 172, 3, 61, 28, 16, 42, 162, 0, 21, 42, 180, 0, 7, 28, 42, 180, 0, 13, 28, 46]
abbrev dktX7_text_5 : List UInt8 := dkwX7_text_5 ++ dktX7_text_6
def dkwX7_text_4 : List UInt8 := [3, 181, 0, 57, 42, 42, 180, 0, 60, 181, 0, 122, 42, 180, 0, 60, 158, 0, 11, 16, 246, 42]
abbrev dktX7_text_4 : List UInt8 := dkwX7_text_4 ++ dktX7_text_5
def dkwX7_text_3 : List UInt8 := [180, 0, 60, 154, 0, 20, 42, 180, 0, 101, 42, 180, 0, 104, 161, 0, 9, 42, 16, 6, 182, 0, 90, 42]
abbrev dktX7_text_3 : List UInt8 := dkwX7_text_3 ++ dktX7_text_4
def dkwX7_text_2 : List UInt8 := [180, 0, 60, 154, 0, 20, 42, 180, 0, 69, 153, 0, 13, 42, 182, 0, 119, 132, 1, 1, 167, 255, 235, 42]
abbrev dktX7_text_2 : List UInt8 := dkwX7_text_2 ++ dktX7_text_3
def dkwX7_text_1 : List UInt8 := [28, 16, 42, 162, 0, 16, 42, 180, 0, 13, 28, 3, 79, 132, 2, 1, 167, 255, 240, 42, 182, 0, 94, 42]
abbrev dktX7_text_1 : List UInt8 := dkwX7_text_1 ++ dktX7_text_2
def dkwX7_text_0 : List UInt8 := [42, 3, 181, 0, 60, 42, 3, 181, 0, 72, 42, 3, 181, 0, 104, 42, 2, 181, 0, 101, 3, 60, 3, 61]
abbrev dktX7_text_0 : List UInt8 := dkwX7_text_0 ++ dktX7_text_1
theorem dksX7_text_0 : cX7_text.data.toList.drop 0 = dktX7_text_0 := by decide +kernel
theorem dksX7_text_1 : cX7_text.data.toList.drop 24 = dktX7_text_1 := dk_seg dksX7_text_0 24 rfl rfl
theorem dksX7_text_2 : cX7_text.data.toList.drop 48 = dktX7_text_2 := dk_seg dksX7_text_1 24 rfl rfl
theorem dksX7_text_3 : cX7_text.data.toList.drop 72 = dktX7_text_3 := dk_seg dksX7_text_2 24 rfl rfl
theorem dksX7_text_4 : cX7_text.data.toList.drop 96 = dktX7_text_4 := dk_seg dksX7_text_3 24 rfl rfl
theorem dksX7_text_5 : cX7_text.data.toList.drop 118 = dktX7_text_5 := dk_seg dksX7_text_4 22 rfl rfl
theorem dksX7_text_6 : cX7_text.data.toList.drop 142 = dktX7_text_6 := dk_seg dksX7_text_5 24 rfl rfl
theorem dksX7_text_7 : cX7_text.data.toList.drop 166 = dktX7_text_7 := dk_seg dksX7_text_6 24 rfl rfl
theorem dX7_text_0 : decode cX7_text 0 = .ok (.aload_n 0, 1) := dk_42 (dk_at dksX7_text_0 0 rfl rfl)
theorem dX7_text_1 : decode cX7_text 1 = .ok (.iconst 0, 1) := dk_3 (dk_at dksX7_text_0 1 rfl rfl)
theorem dX7_text_2 : decode cX7_text 2 = .ok (.putfield 60, 3) := dk_181 0 60 (dk_at dksX7_text_0 2 rfl rfl)
theorem dX7_text_5 : decode cX7_text 5 = .ok (.aload_n 0, 1) := dk_42 (dk_at dksX7_text_0 5 rfl rfl)
theorem dX7_text_6 : decode cX7_text 6 = .ok (.iconst 0, 1) := dk_3 (dk_at dksX7_text_0 6 rfl rfl)
theorem dX7_text_7 : decode cX7_text 7 = .ok (.putfield 72, 3) := dk_181 0 72 (dk_at dksX7_text_0 7 rfl rfl)
theorem dX7_text_10 : decode cX7_text 10 = .ok (.aload_n 0, 1) := dk_42 (dk_at dksX7_text_0 10 rfl rfl)
theorem dX7_text_11 : decode cX7_text 11 = .ok (.iconst 0, 1) := dk_3 (dk_at dksX7_text_0 11 rfl rfl)
theorem dX7_text_12 : decode cX7_text 12 = .ok (.putfield 104, 3) := dk_181 0 104 (dk_at dksX7_text_0 12 rfl rfl)
theorem dX7_text_15 : decode cX7_text 15 = .ok (.aload_n 0, 1) := dk_42 (dk_at dksX7_text_0 15 rfl rfl)
theorem dX7_text_16 : decode cX7_text 16 = .ok (.iconst (-1), 1) := dk_2 (dk_at dksX7_text_0 16 rfl rfl)
theorem dX7_text_17 : decode cX7_text 17 = .ok (.putfield 101, 3) := dk_181 0 101 (dk_at dksX7_text_0 17 rfl rfl)
theorem dX7_text_20 : decode cX7_text 20 = .ok (.iconst 0, 1) := dk_3 (dk_at dksX7_text_0 20 rfl rfl)
theorem dX7_text_21 : decode cX7_text 21 = .ok (.istore_n 1, 1) := dk_60 (dk_at dksX7_text_0 21 rfl rfl)
theorem dX7_text_22 : decode cX7_text 22 = .ok (.iconst 0, 1) := dk_3 (dk_at dksX7_text_0 22 rfl rfl)
theorem dX7_text_23 : decode cX7_text 23 = .ok (.istore_n 2, 1) := dk_61 (dk_at dksX7_text_0 23 rfl rfl)
theorem dX7_text_24 : decode cX7_text 24 = .ok (.iload_n 2, 1) := dk_28 (dk_at dksX7_text_1 0 rfl rfl)
theorem dX7_text_25 : decode cX7_text 25 = .ok (.bipush 42, 2) := dk_16 42 (dk_at dksX7_text_1 1 rfl rfl)
theorem dX7_text_27 : decode cX7_text 27 = .ok (.if_icmp .ge 16, 3) := dk_162 0 16 (dk_at dksX7_text_1 3 rfl rfl)
theorem dX7_text_30 : decode cX7_text 30 = .ok (.aload_n 0, 1) := dk_42 (dk_at dksX7_text_1 6 rfl rfl)
theorem dX7_text_31 : decode cX7_text 31 = .ok (.getfield 13, 3) := dk_180 0 13 (dk_at dksX7_text_1 7 rfl rfl)
theorem dX7_text_34 : decode cX7_text 34 = .ok (.iload_n 2, 1) := dk_28 (dk_at dksX7_text_1 10 rfl rfl)
theorem dX7_text_35 : decode cX7_text 35 = .ok (.iconst 0, 1) := dk_3 (dk_at dksX7_text_1 11 rfl rfl)
theorem dX7_text_36 : decode cX7_text 36 = .ok (.iastore, 1) := dk_79 (dk_at dksX7_text_1 12 rfl rfl)
theorem dX7_text_37 : decode cX7_text 37 = .ok (.iinc 2 1, 3) := dk_132 2 1 (dk_at dksX7_text_1 13 rfl rfl)
theorem dX7_text_40 : decode cX7_text 40 = .ok (.goto (-16), 3) := dk_167 255 240 (dk_at dksX7_text_1 16 rfl rfl)
theorem dX7_text_43 : decode cX7_text 43 = .ok (.aload_n 0, 1) := dk_42 (dk_at dksX7_text_1 19 rfl rfl)
theorem dX7_text_44 : decode cX7_text 44 = .ok (.invokevirtual 94, 3) := dk_182 0 94 (dk_at dksX7_text_1 20 rfl rfl)
theorem dX7_text_47 : decode cX7_text 47 = .ok (.aload_n 0, 1) := dk_42 (dk_at dksX7_text_1 23 rfl rfl)
theorem dX7_text_48 : decode cX7_text 48 = .ok (.getfield 60, 3) := dk_180 0 60 (dk_at dksX7_text_2 0 rfl rfl)
theorem dX7_text_51 : decode cX7_text 51 = .ok (.ifCond .ne 20, 3) := dk_154 0 20 (dk_at dksX7_text_2 3 rfl rfl)
theorem dX7_text_54 : decode cX7_text 54 = .ok (.aload_n 0, 1) := dk_42 (dk_at dksX7_text_2 6 rfl rfl)
theorem dX7_text_55 : decode cX7_text 55 = .ok (.getfield 69, 3) := dk_180 0 69 (dk_at dksX7_text_2 7 rfl rfl)
theorem dX7_text_58 : decode cX7_text 58 = .ok (.ifCond .eq 13, 3) := dk_153 0 13 (dk_at dksX7_text_2 10 rfl rfl)
theorem dX7_text_61 : decode cX7_text 61 = .ok (.aload_n 0, 1) := dk_42 (dk_at dksX7_text_2 13 rfl rfl)
theorem dX7_text_62 : decode cX7_text 62 = .ok (.invokevirtual 119, 3) := dk_182 0 119 (dk_at dksX7_text_2 14 rfl rfl)
theorem dX7_text_65 : decode cX7_text 65 = .ok (.iinc 1 1, 3) := dk_132 1 1 (dk_at dksX7_text_2 17 rfl rfl)
theorem dX7_text_68 : decode cX7_text 68 = .ok (.goto (-21), 3) := dk_167 255 235 (dk_at dksX7_text_2 20 rfl rfl)
theorem dX7_text_71 : decode cX7_text 71 = .ok (.aload_n 0, 1) := dk_42 (dk_at dksX7_text_2 23 rfl rfl)
theorem dX7_text_72 : decode cX7_text 72 = .ok (.getfield 60, 3) := dk_180 0 60 (dk_at dksX7_text_3 0 rfl rfl)
theorem dX7_text_75 : decode cX7_text 75 = .ok (.ifCond .ne 20, 3) := dk_154 0 20 (dk_at dksX7_text_3 3 rfl rfl)
theorem dX7_text_78 : decode cX7_text 78 = .ok (.aload_n 0, 1) := dk_42 (dk_at dksX7_text_3 6 rfl rfl)
theorem dX7_text_79 : decode cX7_text 79 = .ok (.getfield 101, 3) := dk_180 0 101 (dk_at dksX7_text_3 7 rfl rfl)
theorem dX7_text_82 : decode cX7_text 82 = .ok (.aload_n 0, 1) := dk_42 (dk_at dksX7_text_3 10 rfl rfl)
theorem dX7_text_83 : decode cX7_text 83 = .ok (.getfield 104, 3) := dk_180 0 104 (dk_at dksX7_text_3 11 rfl rfl)
theorem dX7_text_86 : decode cX7_text 86 = .ok (.if_icmp .lt 9, 3) := dk_161 0 9 (dk_at dksX7_text_3 14 rfl rfl)
theorem dX7_text_89 : decode cX7_text 89 = .ok (.aload_n 0, 1) := dk_42 (dk_at dksX7_text_3 17 rfl rfl)
theorem dX7_text_90 : decode cX7_text 90 = .ok (.bipush 6, 2) := dk_16 6 (dk_at dksX7_text_3 18 rfl rfl)
theorem dX7_text_92 : decode cX7_text 92 = .ok (.invokevirtual 90, 3) := dk_182 0 90 (dk_at dksX7_text_3 20 rfl rfl)
theorem dX7_text_95 : decode cX7_text 95 = .ok (.aload_n 0, 1) := dk_42 (dk_at dksX7_text_3 23 rfl rfl)
theorem dX7_text_96 : decode cX7_text 96 = .ok (.iconst 0, 1) := dk_3 (dk_at dksX7_text_4 0 rfl rfl)
theorem dX7_text_97 : decode cX7_text 97 = .ok (.putfield 57, 3) := dk_181 0 57 (dk_at dksX7_text_4 1 rfl rfl)
theorem dX7_text_100 : decode cX7_text 100 = .ok (.aload_n 0, 1) := dk_42 (dk_at dksX7_text_4 4 rfl rfl)
theorem dX7_text_101 : decode cX7_text 101 = .ok (.aload_n 0, 1) := dk_42 (dk_at dksX7_text_4 5 rfl rfl)
theorem dX7_text_102 : decode cX7_text 102 = .ok (.getfield 60, 3) := dk_180 0 60 (dk_at dksX7_text_4 6 rfl rfl)
theorem dX7_text_105 : decode cX7_text 105 = .ok (.putfield 122, 3) := dk_181 0 122 (dk_at dksX7_text_4 9 rfl rfl)
theorem dX7_text_108 : decode cX7_text 108 = .ok (.aload_n 0, 1) := dk_42 (dk_at dksX7_text_4 12 rfl rfl)
theorem dX7_text_109 : decode cX7_text 109 = .ok (.getfield 60, 3) := dk_180 0 60 (dk_at dksX7_text_4 13 rfl rfl)
theorem dX7_text_112 : decode cX7_text 112 = .ok (.ifCond .le 11, 3) := dk_158 0 11 (dk_at dksX7_text_4 16 rfl rfl)
theorem dX7_text_115 : decode cX7_text 115 = .ok (.bipush (-10), 2) := dk_16 246 (dk_at dksX7_text_4 19 rfl rfl)
theorem dX7_text_117 : decode cX7_text 117 = .ok (.aload_n 0, 1) := dk_42 (dk_at dksX7_text_4 21 rfl rfl)
theorem dX7_text_118 : decode cX7_text 118 = .ok (.getfield 66, 3) := dk_180 0 66 (dk_at dksX7_text_5 0 rfl rfl)
theorem dX7_text_121 : decode cX7_text 121 = .ok (.isub, 1) := dk_100 (dk_at dksX7_text_5 3 rfl rfl)
theorem dX7_text_122 : decode cX7_text 122 = .ok (.ireturn, 1) := dk_172 (dk_at dksX7_text_5 4 rfl rfl)
theorem dX7_text_123 : decode cX7_text 123 = .ok (.iconst 0, 1) := dk_3 (dk_at dksX7_text_5 5 rfl rfl)
theorem dX7_text_124 : decode cX7_text 124 = .ok (.istore_n 2, 1) := dk_61 (dk_at dksX7_text_5 6 rfl rfl)
theorem dX7_text_125 : decode cX7_text 125 = .ok (.iload_n 2, 1) := dk_28 (dk_at dksX7_text_5 7 rfl rfl)
theorem dX7_text_126 : decode cX7_text 126 = .ok (.bipush 42, 2) := dk_16 42 (dk_at dksX7_text_5 8 rfl rfl)
theorem dX7_text_128 : decode cX7_text 128 = .ok (.if_icmp .ge 21, 3) := dk_162 0 21 (dk_at dksX7_text_5 10 rfl rfl)
theorem dX7_text_131 : decode cX7_text 131 = .ok (.aload_n 0, 1) := dk_42 (dk_at dksX7_text_5 13 rfl rfl)
theorem dX7_text_132 : decode cX7_text 132 = .ok (.getfield 7, 3) := dk_180 0 7 (dk_at dksX7_text_5 14 rfl rfl)
theorem dX7_text_135 : decode cX7_text 135 = .ok (.iload_n 2, 1) := dk_28 (dk_at dksX7_text_5 17 rfl rfl)
theorem dX7_text_136 : decode cX7_text 136 = .ok (.aload_n 0, 1) := dk_42 (dk_at dksX7_text_5 18 rfl rfl)
theorem dX7_text_137 : decode cX7_text 137 = .ok (.getfield 13, 3) := dk_180 0 13 (dk_at dksX7_text_5 19 rfl rfl)
theorem dX7_text_140 : decode cX7_text 140 = .ok (.iload_n 2, 1) := dk_28 (dk_at dksX7_text_5 22 rfl rfl)
theorem dX7_text_141 : decode cX7_text 141 = .ok (.iaload, 1) := dk_46 (dk_at dksX7_text_5 23 rfl rfl)
theorem dX7_text_142 : decode cX7_text 142 = .ok (.iastore, 1) := dk_79 (dk_at dksX7_text_6 0 rfl rfl)
theorem dX7_text_143 : decode cX7_text 143 = .ok (.iinc 2 1, 3) := dk_132 2 1 (dk_at dksX7_text_6 1 rfl rfl)
theorem dX7_text_146 : decode cX7_text 146 = .ok (.goto (-21), 3) := dk_167 255 235 (dk_at dksX7_text_6 4 rfl rfl)
theorem dX7_text_149 : decode cX7_text 149 = .ok (.aload_n 0, 1) := dk_42 (dk_at dksX7_text_6 7 rfl rfl)
theorem dX7_text_150 : decode cX7_text 150 = .ok (.aload_n 0, 1) := dk_42 (dk_at dksX7_text_6 8 rfl rfl)
theorem dX7_text_151 : decode cX7_text 151 = .ok (.getfield 104, 3) := dk_180 0 104 (dk_at dksX7_text_6 9 rfl rfl)
theorem dX7_text_154 : decode cX7_text 154 = .ok (.putfield 125, 3) := dk_181 0 125 (dk_at dksX7_text_6 12 rfl rfl)
theorem dX7_text_157 : decode cX7_text 157 = .ok (.aload_n 0, 1) := dk_42 (dk_at dksX7_text_6 15 rfl rfl)
theorem dX7_text_158 : decode cX7_text 158 = .ok (.iconst 0, 1) := dk_3 (dk_at dksX7_text_6 16 rfl rfl)
theorem dX7_text_159 : decode cX7_text 159 = .ok (.putfield 128, 3) := dk_181 0 128 (dk_at dksX7_text_6 17 rfl rfl)
theorem dX7_text_162 : decode cX7_text 162 = .ok (.aload_n 0, 1) := dk_42 (dk_at dksX7_text_6 20 rfl rfl)
theorem dX7_text_163 : decode cX7_text 163 = .ok (.getfield 38, 3) := dk_180 0 38 (dk_at dksX7_text_6 21 rfl rfl)
theorem dX7_text_166 : decode cX7_text 166 = .ok (.iconst 0, 1) := dk_3 (dk_at dksX7_text_7 0 rfl rfl)
theorem dX7_text_167 : decode cX7_text 167 = .ok (.iconst 0, 1) := dk_3 (dk_at dksX7_text_7 1 rfl rfl)
theorem dX7_text_168 : decode cX7_text 168 = .ok (.bastore, 1) := dk_84 (dk_at dksX7_text_7 2 rfl rfl)
theorem dX7_text_169 : decode cX7_text 169 = .ok (.aload_n 0, 1) := dk_42 (dk_at dksX7_text_7 3 rfl rfl)
theorem dX7_text_170 : decode cX7_text 170 = .ok (.getfield 38, 3) := dk_180 0 38 (dk_at dksX7_text_7 4 rfl rfl)
theorem dX7_text_173 : decode cX7_text 173 = .ok (.iconst 1, 1) := dk_4 (dk_at dksX7_text_7 7 rfl rfl)
theorem dX7_text_174 : decode cX7_text 174 = .ok (.iconst 0, 1) := dk_3 (dk_at dksX7_text_7 8 rfl rfl)
theorem dX7_text_175 : decode cX7_text 175 = .ok (.bastore, 1) := dk_84 (dk_at dksX7_text_7 9 rfl rfl)
theorem dX7_text_176 : decode cX7_text 176 = .ok (.iload_n 1, 1) := dk_27 (dk_at dksX7_text_7 10 rfl rfl)
theorem dX7_text_177 : decode cX7_text 177 = .ok (.ireturn, 1) := dk_172 (dk_at dksX7_text_7 11 rfl rfl)
abbrev cX7_step : ByteArray := prog_11_method_9_code
def yX7_step : MethodName := ⟨RX7, "step", "()V"⟩
def dkwX7_step_11 : List UInt8 := [96, 181, 0, 72, 27, 16, 59, 159, 0, 8, 42, 4, 182, 0, 90, 177]
abbrev dktX7_step_11 : List UInt8 := dkwX7_step_11 ++ []
def dkwX7_step_10 : List UInt8 := [100, 5, 164, 0, 37, 42, 4, 182, 0, 90, 167, 0, 29, 42, 6, 181, 0, 69, 42, 89, 180, 0, 72, 4]
abbrev dktX7_step_10 : List UInt8 := dkwX7_step_10 ++ dktX7_step_11
def dkwX7_step_9 : List UInt8 := [180, 0, 72, 4, 96, 181, 0, 72, 167, 255, 182, 42, 5, 181, 0, 69, 42, 180, 0, 72, 42, 180, 0, 63]
abbrev dktX7_step_9 : List UInt8 := dkwX7_step_9 ++ dktX7_step_10
def dkwX7_step_8 : List UInt8 := [180, 0, 72, 182, 0, 75, 96, 16, 48, 100, 167, 0, 7, 42, 180, 0, 79, 181, 0, 79, 42, 89]
abbrev dktX7_step_8 : List UInt8 := dkwX7_step_8 ++ dktX7_step_9
def dkwX7_step_7 : List UInt8 := [42, 42, 180, 0, 72, 42, 180, 0, 63, 100, 5, 162, 0, 25, 16, 10, 42, 180, 0, 79, 104, 42, 42]
abbrev dktX7_step_7 : List UInt8 := dkwX7_step_7 ++ dktX7_step_8
def dkwX7_step_6 : List UInt8 := [153, 0, 106, 42, 42, 180, 0, 72, 182, 0, 75, 133, 20, 0, 86, 20, 0, 88, 184, 0, 53, 153, 0, 59]
abbrev dktX7_step_6 : List UInt8 := dkwX7_step_6 ++ dktX7_step_7
def dkwX7_step_5 : List UInt8 := [167, 255, 225, 42, 4, 181, 0, 69, 167, 0, 146, 27, 133, 20, 0, 86, 20, 0, 88, 184, 0, 53]
abbrev dktX7_step_5 : List UInt8 := dkwX7_step_5 ++ dktX7_step_6
def dkwX7_step_4 : List UInt8 := [20, 0, 82, 20, 0, 84, 184, 0, 53, 153, 0, 16, 42, 89, 180, 0, 72, 4, 96, 181, 0, 72]
abbrev dktX7_step_4 : List UInt8 := dkwX7_step_4 ++ dktX7_step_5
def dkwX7_step_3 : List UInt8 := [133, 20, 0, 82, 20, 0, 84, 184, 0, 53, 153, 0, 45, 42, 42, 180, 0, 72, 182, 0, 75, 133]
abbrev dktX7_step_3 : List UInt8 := dkwX7_step_3 ++ dktX7_step_4
def dkwX7_step_2 : List UInt8 := [182, 0, 75, 60, 42, 3, 181, 0, 79, 27, 16, 252, 160, 0, 11, 42, 3, 181, 0, 69, 167, 0, 202, 27]
abbrev dktX7_step_2 : List UInt8 := dkwX7_step_2 ++ dktX7_step_3
def dkwX7_step_1 : List UInt8 := [180, 0, 72, 4, 96, 181, 0, 72, 167, 255, 233, 42, 42, 180, 0, 72, 181, 0, 63, 42, 42, 180, 0, 72]
abbrev dktX7_step_1 : List UInt8 := dkwX7_step_1 ++ dktX7_step_2
def dkwX7_step_0 : List UInt8 := [42, 180, 0, 60, 158, 0, 4, 177, 42, 42, 180, 0, 72, 182, 0, 75, 16, 32, 160, 0, 16, 42, 89]
abbrev dktX7_step_0 : List UInt8 := dkwX7_step_0 ++ dktX7_step_1
theorem dksX7_step_0 : cX7_step.data.toList.drop 0 = dktX7_step_0 := by decide +kernel
theorem dksX7_step_1 : cX7_step.data.toList.drop 23 = dktX7_step_1 := dk_seg dksX7_step_0 23 rfl rfl
theorem dksX7_step_2 : cX7_step.data.toList.drop 47 = dktX7_step_2 := dk_seg dksX7_step_1 24 rfl rfl
theorem dksX7_step_3 : cX7_step.data.toList.drop 71 = dktX7_step_3 := dk_seg dksX7_step_2 24 rfl rfl
theorem dksX7_step_4 : cX7_step.data.toList.drop 93 = dktX7_step_4 := dk_seg dksX7_step_3 22 rfl rfl
theorem dksX7_step_5 : cX7_step.data.toList.drop 115 = dktX7_step_5 := dk_seg dksX7_step_4 22 rfl rfl
theorem dksX7_step_6 : cX7_step.data.toList.drop 137 = dktX7_step_6 := dk_seg dksX7_step_5 22 rfl rfl
theorem dksX7_step_7 : cX7_step.data.toList.drop 161 = dktX7_step_7 := dk_seg dksX7_step_6 24 rfl rfl
theorem dksX7_step_8 : cX7_step.data.toList.drop 184 = dktX7_step_8 := dk_seg dksX7_step_7 23 rfl rfl
theorem dksX7_step_9 : cX7_step.data.toList.drop 206 = dktX7_step_9 := dk_seg dksX7_step_8 22 rfl rfl
theorem dksX7_step_10 : cX7_step.data.toList.drop 230 = dktX7_step_10 := dk_seg dksX7_step_9 24 rfl rfl
theorem dksX7_step_11 : cX7_step.data.toList.drop 254 = dktX7_step_11 := dk_seg dksX7_step_10 24 rfl rfl
theorem dX7_step_0 : decode cX7_step 0 = .ok (.aload_n 0, 1) := dk_42 (dk_at dksX7_step_0 0 rfl rfl)
theorem dX7_step_1 : decode cX7_step 1 = .ok (.getfield 60, 3) := dk_180 0 60 (dk_at dksX7_step_0 1 rfl rfl)
theorem dX7_step_4 : decode cX7_step 4 = .ok (.ifCond .le 4, 3) := dk_158 0 4 (dk_at dksX7_step_0 4 rfl rfl)
theorem dX7_step_7 : decode cX7_step 7 = .ok (.return_, 1) := dk_177 (dk_at dksX7_step_0 7 rfl rfl)
theorem dX7_step_8 : decode cX7_step 8 = .ok (.aload_n 0, 1) := dk_42 (dk_at dksX7_step_0 8 rfl rfl)
theorem dX7_step_9 : decode cX7_step 9 = .ok (.aload_n 0, 1) := dk_42 (dk_at dksX7_step_0 9 rfl rfl)
theorem dX7_step_10 : decode cX7_step 10 = .ok (.getfield 72, 3) := dk_180 0 72 (dk_at dksX7_step_0 10 rfl rfl)
theorem dX7_step_13 : decode cX7_step 13 = .ok (.invokevirtual 75, 3) := dk_182 0 75 (dk_at dksX7_step_0 13 rfl rfl)
theorem dX7_step_16 : decode cX7_step 16 = .ok (.bipush 32, 2) := dk_16 32 (dk_at dksX7_step_0 16 rfl rfl)
theorem dX7_step_18 : decode cX7_step 18 = .ok (.if_icmp .ne 16, 3) := dk_160 0 16 (dk_at dksX7_step_0 18 rfl rfl)
theorem dX7_step_21 : decode cX7_step 21 = .ok (.aload_n 0, 1) := dk_42 (dk_at dksX7_step_0 21 rfl rfl)
theorem dX7_step_22 : decode cX7_step 22 = .ok (.dup, 1) := dk_89 (dk_at dksX7_step_0 22 rfl rfl)
theorem dX7_step_23 : decode cX7_step 23 = .ok (.getfield 72, 3) := dk_180 0 72 (dk_at dksX7_step_1 0 rfl rfl)
theorem dX7_step_26 : decode cX7_step 26 = .ok (.iconst 1, 1) := dk_4 (dk_at dksX7_step_1 3 rfl rfl)
theorem dX7_step_27 : decode cX7_step 27 = .ok (.iadd, 1) := dk_96 (dk_at dksX7_step_1 4 rfl rfl)
theorem dX7_step_28 : decode cX7_step 28 = .ok (.putfield 72, 3) := dk_181 0 72 (dk_at dksX7_step_1 5 rfl rfl)
theorem dX7_step_31 : decode cX7_step 31 = .ok (.goto (-23), 3) := dk_167 255 233 (dk_at dksX7_step_1 8 rfl rfl)
theorem dX7_step_34 : decode cX7_step 34 = .ok (.aload_n 0, 1) := dk_42 (dk_at dksX7_step_1 11 rfl rfl)
theorem dX7_step_35 : decode cX7_step 35 = .ok (.aload_n 0, 1) := dk_42 (dk_at dksX7_step_1 12 rfl rfl)
theorem dX7_step_36 : decode cX7_step 36 = .ok (.getfield 72, 3) := dk_180 0 72 (dk_at dksX7_step_1 13 rfl rfl)
theorem dX7_step_39 : decode cX7_step 39 = .ok (.putfield 63, 3) := dk_181 0 63 (dk_at dksX7_step_1 16 rfl rfl)
theorem dX7_step_42 : decode cX7_step 42 = .ok (.aload_n 0, 1) := dk_42 (dk_at dksX7_step_1 19 rfl rfl)
theorem dX7_step_43 : decode cX7_step 43 = .ok (.aload_n 0, 1) := dk_42 (dk_at dksX7_step_1 20 rfl rfl)
theorem dX7_step_44 : decode cX7_step 44 = .ok (.getfield 72, 3) := dk_180 0 72 (dk_at dksX7_step_1 21 rfl rfl)
theorem dX7_step_47 : decode cX7_step 47 = .ok (.invokevirtual 75, 3) := dk_182 0 75 (dk_at dksX7_step_2 0 rfl rfl)
theorem dX7_step_50 : decode cX7_step 50 = .ok (.istore_n 1, 1) := dk_60 (dk_at dksX7_step_2 3 rfl rfl)
theorem dX7_step_51 : decode cX7_step 51 = .ok (.aload_n 0, 1) := dk_42 (dk_at dksX7_step_2 4 rfl rfl)
theorem dX7_step_52 : decode cX7_step 52 = .ok (.iconst 0, 1) := dk_3 (dk_at dksX7_step_2 5 rfl rfl)
theorem dX7_step_53 : decode cX7_step 53 = .ok (.putfield 79, 3) := dk_181 0 79 (dk_at dksX7_step_2 6 rfl rfl)
theorem dX7_step_56 : decode cX7_step 56 = .ok (.iload_n 1, 1) := dk_27 (dk_at dksX7_step_2 9 rfl rfl)
theorem dX7_step_57 : decode cX7_step 57 = .ok (.bipush (-4), 2) := dk_16 252 (dk_at dksX7_step_2 10 rfl rfl)
theorem dX7_step_59 : decode cX7_step 59 = .ok (.if_icmp .ne 11, 3) := dk_160 0 11 (dk_at dksX7_step_2 12 rfl rfl)
theorem dX7_step_62 : decode cX7_step 62 = .ok (.aload_n 0, 1) := dk_42 (dk_at dksX7_step_2 15 rfl rfl)
theorem dX7_step_63 : decode cX7_step 63 = .ok (.iconst 0, 1) := dk_3 (dk_at dksX7_step_2 16 rfl rfl)
theorem dX7_step_64 : decode cX7_step 64 = .ok (.putfield 69, 3) := dk_181 0 69 (dk_at dksX7_step_2 17 rfl rfl)
theorem dX7_step_67 : decode cX7_step 67 = .ok (.goto 202, 3) := dk_167 0 202 (dk_at dksX7_step_2 20 rfl rfl)
theorem dX7_step_70 : decode cX7_step 70 = .ok (.iload_n 1, 1) := dk_27 (dk_at dksX7_step_2 23 rfl rfl)
theorem dX7_step_71 : decode cX7_step 71 = .ok (.i2l, 1) := dk_133 (dk_at dksX7_step_3 0 rfl rfl)
theorem dX7_step_72 : decode cX7_step 72 = .ok (.ldc2_w 82, 3) := dk_20 0 82 (dk_at dksX7_step_3 1 rfl rfl)
theorem dX7_step_75 : decode cX7_step 75 = .ok (.ldc2_w 84, 3) := dk_20 0 84 (dk_at dksX7_step_3 4 rfl rfl)
theorem dX7_step_78 : decode cX7_step 78 = .ok (.invokestatic 53, 3) := dk_184 0 53 (dk_at dksX7_step_3 7 rfl rfl)
theorem dX7_step_81 : decode cX7_step 81 = .ok (.ifCond .eq 45, 3) := dk_153 0 45 (dk_at dksX7_step_3 10 rfl rfl)
theorem dX7_step_84 : decode cX7_step 84 = .ok (.aload_n 0, 1) := dk_42 (dk_at dksX7_step_3 13 rfl rfl)
theorem dX7_step_85 : decode cX7_step 85 = .ok (.aload_n 0, 1) := dk_42 (dk_at dksX7_step_3 14 rfl rfl)
theorem dX7_step_86 : decode cX7_step 86 = .ok (.getfield 72, 3) := dk_180 0 72 (dk_at dksX7_step_3 15 rfl rfl)
theorem dX7_step_89 : decode cX7_step 89 = .ok (.invokevirtual 75, 3) := dk_182 0 75 (dk_at dksX7_step_3 18 rfl rfl)
theorem dX7_step_92 : decode cX7_step 92 = .ok (.i2l, 1) := dk_133 (dk_at dksX7_step_3 21 rfl rfl)
theorem dX7_step_93 : decode cX7_step 93 = .ok (.ldc2_w 82, 3) := dk_20 0 82 (dk_at dksX7_step_4 0 rfl rfl)
theorem dX7_step_96 : decode cX7_step 96 = .ok (.ldc2_w 84, 3) := dk_20 0 84 (dk_at dksX7_step_4 3 rfl rfl)
theorem dX7_step_99 : decode cX7_step 99 = .ok (.invokestatic 53, 3) := dk_184 0 53 (dk_at dksX7_step_4 6 rfl rfl)
theorem dX7_step_102 : decode cX7_step 102 = .ok (.ifCond .eq 16, 3) := dk_153 0 16 (dk_at dksX7_step_4 9 rfl rfl)
theorem dX7_step_105 : decode cX7_step 105 = .ok (.aload_n 0, 1) := dk_42 (dk_at dksX7_step_4 12 rfl rfl)
theorem dX7_step_106 : decode cX7_step 106 = .ok (.dup, 1) := dk_89 (dk_at dksX7_step_4 13 rfl rfl)
theorem dX7_step_107 : decode cX7_step 107 = .ok (.getfield 72, 3) := dk_180 0 72 (dk_at dksX7_step_4 14 rfl rfl)
theorem dX7_step_110 : decode cX7_step 110 = .ok (.iconst 1, 1) := dk_4 (dk_at dksX7_step_4 17 rfl rfl)
theorem dX7_step_111 : decode cX7_step 111 = .ok (.iadd, 1) := dk_96 (dk_at dksX7_step_4 18 rfl rfl)
theorem dX7_step_112 : decode cX7_step 112 = .ok (.putfield 72, 3) := dk_181 0 72 (dk_at dksX7_step_4 19 rfl rfl)
theorem dX7_step_115 : decode cX7_step 115 = .ok (.goto (-31), 3) := dk_167 255 225 (dk_at dksX7_step_5 0 rfl rfl)
theorem dX7_step_118 : decode cX7_step 118 = .ok (.aload_n 0, 1) := dk_42 (dk_at dksX7_step_5 3 rfl rfl)
theorem dX7_step_119 : decode cX7_step 119 = .ok (.iconst 1, 1) := dk_4 (dk_at dksX7_step_5 4 rfl rfl)
theorem dX7_step_120 : decode cX7_step 120 = .ok (.putfield 69, 3) := dk_181 0 69 (dk_at dksX7_step_5 5 rfl rfl)
theorem dX7_step_123 : decode cX7_step 123 = .ok (.goto 146, 3) := dk_167 0 146 (dk_at dksX7_step_5 8 rfl rfl)
theorem dX7_step_126 : decode cX7_step 126 = .ok (.iload_n 1, 1) := dk_27 (dk_at dksX7_step_5 11 rfl rfl)
theorem dX7_step_127 : decode cX7_step 127 = .ok (.i2l, 1) := dk_133 (dk_at dksX7_step_5 12 rfl rfl)
theorem dX7_step_128 : decode cX7_step 128 = .ok (.ldc2_w 86, 3) := dk_20 0 86 (dk_at dksX7_step_5 13 rfl rfl)
theorem dX7_step_131 : decode cX7_step 131 = .ok (.ldc2_w 88, 3) := dk_20 0 88 (dk_at dksX7_step_5 16 rfl rfl)
theorem dX7_step_134 : decode cX7_step 134 = .ok (.invokestatic 53, 3) := dk_184 0 53 (dk_at dksX7_step_5 19 rfl rfl)
theorem dX7_step_137 : decode cX7_step 137 = .ok (.ifCond .eq 106, 3) := dk_153 0 106 (dk_at dksX7_step_6 0 rfl rfl)
theorem dX7_step_140 : decode cX7_step 140 = .ok (.aload_n 0, 1) := dk_42 (dk_at dksX7_step_6 3 rfl rfl)
theorem dX7_step_141 : decode cX7_step 141 = .ok (.aload_n 0, 1) := dk_42 (dk_at dksX7_step_6 4 rfl rfl)
theorem dX7_step_142 : decode cX7_step 142 = .ok (.getfield 72, 3) := dk_180 0 72 (dk_at dksX7_step_6 5 rfl rfl)
theorem dX7_step_145 : decode cX7_step 145 = .ok (.invokevirtual 75, 3) := dk_182 0 75 (dk_at dksX7_step_6 8 rfl rfl)
theorem dX7_step_148 : decode cX7_step 148 = .ok (.i2l, 1) := dk_133 (dk_at dksX7_step_6 11 rfl rfl)
theorem dX7_step_149 : decode cX7_step 149 = .ok (.ldc2_w 86, 3) := dk_20 0 86 (dk_at dksX7_step_6 12 rfl rfl)
theorem dX7_step_152 : decode cX7_step 152 = .ok (.ldc2_w 88, 3) := dk_20 0 88 (dk_at dksX7_step_6 15 rfl rfl)
theorem dX7_step_155 : decode cX7_step 155 = .ok (.invokestatic 53, 3) := dk_184 0 53 (dk_at dksX7_step_6 18 rfl rfl)
theorem dX7_step_158 : decode cX7_step 158 = .ok (.ifCond .eq 59, 3) := dk_153 0 59 (dk_at dksX7_step_6 21 rfl rfl)
theorem dX7_step_161 : decode cX7_step 161 = .ok (.aload_n 0, 1) := dk_42 (dk_at dksX7_step_7 0 rfl rfl)
theorem dX7_step_162 : decode cX7_step 162 = .ok (.aload_n 0, 1) := dk_42 (dk_at dksX7_step_7 1 rfl rfl)
theorem dX7_step_163 : decode cX7_step 163 = .ok (.getfield 72, 3) := dk_180 0 72 (dk_at dksX7_step_7 2 rfl rfl)
theorem dX7_step_166 : decode cX7_step 166 = .ok (.aload_n 0, 1) := dk_42 (dk_at dksX7_step_7 5 rfl rfl)
theorem dX7_step_167 : decode cX7_step 167 = .ok (.getfield 63, 3) := dk_180 0 63 (dk_at dksX7_step_7 6 rfl rfl)
theorem dX7_step_170 : decode cX7_step 170 = .ok (.isub, 1) := dk_100 (dk_at dksX7_step_7 9 rfl rfl)
theorem dX7_step_171 : decode cX7_step 171 = .ok (.iconst 2, 1) := dk_5 (dk_at dksX7_step_7 10 rfl rfl)
theorem dX7_step_172 : decode cX7_step 172 = .ok (.if_icmp .ge 25, 3) := dk_162 0 25 (dk_at dksX7_step_7 11 rfl rfl)
theorem dX7_step_175 : decode cX7_step 175 = .ok (.bipush 10, 2) := dk_16 10 (dk_at dksX7_step_7 14 rfl rfl)
theorem dX7_step_177 : decode cX7_step 177 = .ok (.aload_n 0, 1) := dk_42 (dk_at dksX7_step_7 16 rfl rfl)
theorem dX7_step_178 : decode cX7_step 178 = .ok (.getfield 79, 3) := dk_180 0 79 (dk_at dksX7_step_7 17 rfl rfl)
theorem dX7_step_181 : decode cX7_step 181 = .ok (.imul, 1) := dk_104 (dk_at dksX7_step_7 20 rfl rfl)
theorem dX7_step_182 : decode cX7_step 182 = .ok (.aload_n 0, 1) := dk_42 (dk_at dksX7_step_7 21 rfl rfl)
theorem dX7_step_183 : decode cX7_step 183 = .ok (.aload_n 0, 1) := dk_42 (dk_at dksX7_step_7 22 rfl rfl)
theorem dX7_step_184 : decode cX7_step 184 = .ok (.getfield 72, 3) := dk_180 0 72 (dk_at dksX7_step_8 0 rfl rfl)
theorem dX7_step_187 : decode cX7_step 187 = .ok (.invokevirtual 75, 3) := dk_182 0 75 (dk_at dksX7_step_8 3 rfl rfl)
theorem dX7_step_190 : decode cX7_step 190 = .ok (.iadd, 1) := dk_96 (dk_at dksX7_step_8 6 rfl rfl)
theorem dX7_step_191 : decode cX7_step 191 = .ok (.bipush 48, 2) := dk_16 48 (dk_at dksX7_step_8 7 rfl rfl)
theorem dX7_step_193 : decode cX7_step 193 = .ok (.isub, 1) := dk_100 (dk_at dksX7_step_8 9 rfl rfl)
theorem dX7_step_194 : decode cX7_step 194 = .ok (.goto 7, 3) := dk_167 0 7 (dk_at dksX7_step_8 10 rfl rfl)
theorem dX7_step_197 : decode cX7_step 197 = .ok (.aload_n 0, 1) := dk_42 (dk_at dksX7_step_8 13 rfl rfl)
theorem dX7_step_198 : decode cX7_step 198 = .ok (.getfield 79, 3) := dk_180 0 79 (dk_at dksX7_step_8 14 rfl rfl)
theorem dX7_step_201 : decode cX7_step 201 = .ok (.putfield 79, 3) := dk_181 0 79 (dk_at dksX7_step_8 17 rfl rfl)
theorem dX7_step_204 : decode cX7_step 204 = .ok (.aload_n 0, 1) := dk_42 (dk_at dksX7_step_8 20 rfl rfl)
theorem dX7_step_205 : decode cX7_step 205 = .ok (.dup, 1) := dk_89 (dk_at dksX7_step_8 21 rfl rfl)
theorem dX7_step_206 : decode cX7_step 206 = .ok (.getfield 72, 3) := dk_180 0 72 (dk_at dksX7_step_9 0 rfl rfl)
theorem dX7_step_209 : decode cX7_step 209 = .ok (.iconst 1, 1) := dk_4 (dk_at dksX7_step_9 3 rfl rfl)
theorem dX7_step_210 : decode cX7_step 210 = .ok (.iadd, 1) := dk_96 (dk_at dksX7_step_9 4 rfl rfl)
theorem dX7_step_211 : decode cX7_step 211 = .ok (.putfield 72, 3) := dk_181 0 72 (dk_at dksX7_step_9 5 rfl rfl)
theorem dX7_step_214 : decode cX7_step 214 = .ok (.goto (-74), 3) := dk_167 255 182 (dk_at dksX7_step_9 8 rfl rfl)
theorem dX7_step_217 : decode cX7_step 217 = .ok (.aload_n 0, 1) := dk_42 (dk_at dksX7_step_9 11 rfl rfl)
theorem dX7_step_218 : decode cX7_step 218 = .ok (.iconst 2, 1) := dk_5 (dk_at dksX7_step_9 12 rfl rfl)
theorem dX7_step_219 : decode cX7_step 219 = .ok (.putfield 69, 3) := dk_181 0 69 (dk_at dksX7_step_9 13 rfl rfl)
theorem dX7_step_222 : decode cX7_step 222 = .ok (.aload_n 0, 1) := dk_42 (dk_at dksX7_step_9 16 rfl rfl)
theorem dX7_step_223 : decode cX7_step 223 = .ok (.getfield 72, 3) := dk_180 0 72 (dk_at dksX7_step_9 17 rfl rfl)
theorem dX7_step_226 : decode cX7_step 226 = .ok (.aload_n 0, 1) := dk_42 (dk_at dksX7_step_9 20 rfl rfl)
theorem dX7_step_227 : decode cX7_step 227 = .ok (.getfield 63, 3) := dk_180 0 63 (dk_at dksX7_step_9 21 rfl rfl)
theorem dX7_step_230 : decode cX7_step 230 = .ok (.isub, 1) := dk_100 (dk_at dksX7_step_10 0 rfl rfl)
theorem dX7_step_231 : decode cX7_step 231 = .ok (.iconst 2, 1) := dk_5 (dk_at dksX7_step_10 1 rfl rfl)
theorem dX7_step_232 : decode cX7_step 232 = .ok (.if_icmp .le 37, 3) := dk_164 0 37 (dk_at dksX7_step_10 2 rfl rfl)
theorem dX7_step_235 : decode cX7_step 235 = .ok (.aload_n 0, 1) := dk_42 (dk_at dksX7_step_10 5 rfl rfl)
theorem dX7_step_236 : decode cX7_step 236 = .ok (.iconst 1, 1) := dk_4 (dk_at dksX7_step_10 6 rfl rfl)
theorem dX7_step_237 : decode cX7_step 237 = .ok (.invokevirtual 90, 3) := dk_182 0 90 (dk_at dksX7_step_10 7 rfl rfl)
theorem dX7_step_240 : decode cX7_step 240 = .ok (.goto 29, 3) := dk_167 0 29 (dk_at dksX7_step_10 10 rfl rfl)
theorem dX7_step_243 : decode cX7_step 243 = .ok (.aload_n 0, 1) := dk_42 (dk_at dksX7_step_10 13 rfl rfl)
theorem dX7_step_244 : decode cX7_step 244 = .ok (.iconst 3, 1) := dk_6 (dk_at dksX7_step_10 14 rfl rfl)
theorem dX7_step_245 : decode cX7_step 245 = .ok (.putfield 69, 3) := dk_181 0 69 (dk_at dksX7_step_10 15 rfl rfl)
theorem dX7_step_248 : decode cX7_step 248 = .ok (.aload_n 0, 1) := dk_42 (dk_at dksX7_step_10 18 rfl rfl)
theorem dX7_step_249 : decode cX7_step 249 = .ok (.dup, 1) := dk_89 (dk_at dksX7_step_10 19 rfl rfl)
theorem dX7_step_250 : decode cX7_step 250 = .ok (.getfield 72, 3) := dk_180 0 72 (dk_at dksX7_step_10 20 rfl rfl)
theorem dX7_step_253 : decode cX7_step 253 = .ok (.iconst 1, 1) := dk_4 (dk_at dksX7_step_10 23 rfl rfl)
theorem dX7_step_254 : decode cX7_step 254 = .ok (.iadd, 1) := dk_96 (dk_at dksX7_step_11 0 rfl rfl)
theorem dX7_step_255 : decode cX7_step 255 = .ok (.putfield 72, 3) := dk_181 0 72 (dk_at dksX7_step_11 1 rfl rfl)
theorem dX7_step_258 : decode cX7_step 258 = .ok (.iload_n 1, 1) := dk_27 (dk_at dksX7_step_11 4 rfl rfl)
theorem dX7_step_259 : decode cX7_step 259 = .ok (.bipush 59, 2) := dk_16 59 (dk_at dksX7_step_11 5 rfl rfl)
theorem dX7_step_261 : decode cX7_step 261 = .ok (.if_icmp .eq 8, 3) := dk_159 0 8 (dk_at dksX7_step_11 7 rfl rfl)
theorem dX7_step_264 : decode cX7_step 264 = .ok (.aload_n 0, 1) := dk_42 (dk_at dksX7_step_11 10 rfl rfl)
theorem dX7_step_265 : decode cX7_step 265 = .ok (.iconst 1, 1) := dk_4 (dk_at dksX7_step_11 11 rfl rfl)
theorem dX7_step_266 : decode cX7_step 266 = .ok (.invokevirtual 90, 3) := dk_182 0 90 (dk_at dksX7_step_11 12 rfl rfl)
theorem dX7_step_269 : decode cX7_step 269 = .ok (.return_, 1) := dk_177 (dk_at dksX7_step_11 15 rfl rfl)
abbrev cX7_byteAt : ByteArray := prog_11_method_6_code
def yX7_byteAt : MethodName := ⟨RX7, "byteAt", "(I)I"⟩
def dkwX7_byteAt_0 : List UInt8 := [27, 42, 180, 0, 57, 162, 0, 12, 42, 180, 0, 16, 27, 46, 167, 0, 5, 16, 252, 172]
abbrev dktX7_byteAt_0 : List UInt8 := dkwX7_byteAt_0 ++ []
theorem dksX7_byteAt_0 : cX7_byteAt.data.toList.drop 0 = dktX7_byteAt_0 := by decide +kernel
theorem dX7_byteAt_0 : decode cX7_byteAt 0 = .ok (.iload_n 1, 1) := dk_27 (dk_at dksX7_byteAt_0 0 rfl rfl)
theorem dX7_byteAt_1 : decode cX7_byteAt 1 = .ok (.aload_n 0, 1) := dk_42 (dk_at dksX7_byteAt_0 1 rfl rfl)
theorem dX7_byteAt_2 : decode cX7_byteAt 2 = .ok (.getfield 57, 3) := dk_180 0 57 (dk_at dksX7_byteAt_0 2 rfl rfl)
theorem dX7_byteAt_5 : decode cX7_byteAt 5 = .ok (.if_icmp .ge 12, 3) := dk_162 0 12 (dk_at dksX7_byteAt_0 5 rfl rfl)
theorem dX7_byteAt_8 : decode cX7_byteAt 8 = .ok (.aload_n 0, 1) := dk_42 (dk_at dksX7_byteAt_0 8 rfl rfl)
theorem dX7_byteAt_9 : decode cX7_byteAt 9 = .ok (.getfield 16, 3) := dk_180 0 16 (dk_at dksX7_byteAt_0 9 rfl rfl)
theorem dX7_byteAt_12 : decode cX7_byteAt 12 = .ok (.iload_n 1, 1) := dk_27 (dk_at dksX7_byteAt_0 12 rfl rfl)
theorem dX7_byteAt_13 : decode cX7_byteAt 13 = .ok (.iaload, 1) := dk_46 (dk_at dksX7_byteAt_0 13 rfl rfl)
theorem dX7_byteAt_14 : decode cX7_byteAt 14 = .ok (.goto 5, 3) := dk_167 0 5 (dk_at dksX7_byteAt_0 14 rfl rfl)
theorem dX7_byteAt_17 : decode cX7_byteAt 17 = .ok (.bipush (-4), 2) := dk_16 252 (dk_at dksX7_byteAt_0 17 rfl rfl)
theorem dX7_byteAt_19 : decode cX7_byteAt 19 = .ok (.ireturn, 1) := dk_172 (dk_at dksX7_byteAt_0 19 rfl rfl)
abbrev cX7_fails : ByteArray := prog_11_method_7_code
def yX7_fails : MethodName := ⟨RX7, "fails", "(I)V"⟩
def dkwX7_fails_0 : List UInt8 := [42, 180, 0, 60, 154, 0, 16, 42, 27, 181, 0, 60, 42, 42, 180, 0, 63, 181, 0, 66, 177]
abbrev dktX7_fails_0 : List UInt8 := dkwX7_fails_0 ++ []
theorem dksX7_fails_0 : cX7_fails.data.toList.drop 0 = dktX7_fails_0 := by decide +kernel
theorem dX7_fails_0 : decode cX7_fails 0 = .ok (.aload_n 0, 1) := dk_42 (dk_at dksX7_fails_0 0 rfl rfl)
theorem dX7_fails_1 : decode cX7_fails 1 = .ok (.getfield 60, 3) := dk_180 0 60 (dk_at dksX7_fails_0 1 rfl rfl)
theorem dX7_fails_4 : decode cX7_fails 4 = .ok (.ifCond .ne 16, 3) := dk_154 0 16 (dk_at dksX7_fails_0 4 rfl rfl)
theorem dX7_fails_7 : decode cX7_fails 7 = .ok (.aload_n 0, 1) := dk_42 (dk_at dksX7_fails_0 7 rfl rfl)
theorem dX7_fails_8 : decode cX7_fails 8 = .ok (.iload_n 1, 1) := dk_27 (dk_at dksX7_fails_0 8 rfl rfl)
theorem dX7_fails_9 : decode cX7_fails 9 = .ok (.putfield 60, 3) := dk_181 0 60 (dk_at dksX7_fails_0 9 rfl rfl)
theorem dX7_fails_12 : decode cX7_fails 12 = .ok (.aload_n 0, 1) := dk_42 (dk_at dksX7_fails_0 12 rfl rfl)
theorem dX7_fails_13 : decode cX7_fails 13 = .ok (.aload_n 0, 1) := dk_42 (dk_at dksX7_fails_0 13 rfl rfl)
theorem dX7_fails_14 : decode cX7_fails 14 = .ok (.getfield 63, 3) := dk_180 0 63 (dk_at dksX7_fails_0 14 rfl rfl)
theorem dX7_fails_17 : decode cX7_fails 17 = .ok (.putfield 66, 3) := dk_181 0 66 (dk_at dksX7_fails_0 17 rfl rfl)
theorem dX7_fails_20 : decode cX7_fails 20 = .ok (.return_, 1) := dk_177 (dk_at dksX7_fails_0 20 rfl rfl)
abbrev cX7_readLine : ByteArray := prog_11_method_13_code
def yX7_readLine : MethodName := ⟨RX7, "readLine", "()V"⟩
def dkwX7_readLine_4 : List UInt8 := [182, 0, 94, 177]
abbrev dktX7_readLine_4 : List UInt8 := dkwX7_readLine_4 ++ []
def dkwX7_readLine_3 : List UInt8 := [182, 0, 116, 42, 180, 0, 60, 154, 0, 16, 42, 180, 0, 69, 6, 159, 0, 8, 42, 5, 182, 0, 90, 42]
abbrev dktX7_readLine_3 : List UInt8 := dkwX7_readLine_3 ++ dktX7_readLine_4
def dkwX7_readLine_2 : List UInt8 := [16, 10, 160, 0, 8, 42, 8, 182, 0, 90, 42, 182, 0, 94, 42, 180, 0, 60, 158, 0, 4, 177, 42, 27]
abbrev dktX7_readLine_2 : List UInt8 := dkwX7_readLine_2 ++ dktX7_readLine_3
def dkwX7_readLine_1 : List UInt8 := [6, 163, 0, 11, 42, 180, 0, 104, 8, 159, 0, 20, 27, 7, 160, 0, 20, 42, 180, 0, 13, 16, 40, 46]
abbrev dktX7_readLine_1 : List UInt8 := dkwX7_readLine_1 ++ dktX7_readLine_2
def dkwX7_readLine_0 : List UInt8 := [42, 182, 0, 111, 60, 27, 133, 9, 20, 0, 114, 184, 0, 53, 154, 0, 9, 42, 5, 182, 0, 90, 177, 27]
abbrev dktX7_readLine_0 : List UInt8 := dkwX7_readLine_0 ++ dktX7_readLine_1
theorem dksX7_readLine_0 : cX7_readLine.data.toList.drop 0 = dktX7_readLine_0 := by decide +kernel
theorem dksX7_readLine_1 : cX7_readLine.data.toList.drop 24 = dktX7_readLine_1 := dk_seg dksX7_readLine_0 24 rfl rfl
theorem dksX7_readLine_2 : cX7_readLine.data.toList.drop 48 = dktX7_readLine_2 := dk_seg dksX7_readLine_1 24 rfl rfl
theorem dksX7_readLine_3 : cX7_readLine.data.toList.drop 72 = dktX7_readLine_3 := dk_seg dksX7_readLine_2 24 rfl rfl
theorem dksX7_readLine_4 : cX7_readLine.data.toList.drop 96 = dktX7_readLine_4 := dk_seg dksX7_readLine_3 24 rfl rfl
theorem dX7_readLine_0 : decode cX7_readLine 0 = .ok (.aload_n 0, 1) := dk_42 (dk_at dksX7_readLine_0 0 rfl rfl)
theorem dX7_readLine_1 : decode cX7_readLine 1 = .ok (.invokevirtual 111, 3) := dk_182 0 111 (dk_at dksX7_readLine_0 1 rfl rfl)
theorem dX7_readLine_4 : decode cX7_readLine 4 = .ok (.istore_n 1, 1) := dk_60 (dk_at dksX7_readLine_0 4 rfl rfl)
theorem dX7_readLine_5 : decode cX7_readLine 5 = .ok (.iload_n 1, 1) := dk_27 (dk_at dksX7_readLine_0 5 rfl rfl)
theorem dX7_readLine_6 : decode cX7_readLine 6 = .ok (.i2l, 1) := dk_133 (dk_at dksX7_readLine_0 6 rfl rfl)
theorem dX7_readLine_7 : decode cX7_readLine 7 = .ok (.lconst 0, 1) := dk_9 (dk_at dksX7_readLine_0 7 rfl rfl)
theorem dX7_readLine_8 : decode cX7_readLine 8 = .ok (.ldc2_w 114, 3) := dk_20 0 114 (dk_at dksX7_readLine_0 8 rfl rfl)
theorem dX7_readLine_11 : decode cX7_readLine 11 = .ok (.invokestatic 53, 3) := dk_184 0 53 (dk_at dksX7_readLine_0 11 rfl rfl)
theorem dX7_readLine_14 : decode cX7_readLine 14 = .ok (.ifCond .ne 9, 3) := dk_154 0 9 (dk_at dksX7_readLine_0 14 rfl rfl)
theorem dX7_readLine_17 : decode cX7_readLine 17 = .ok (.aload_n 0, 1) := dk_42 (dk_at dksX7_readLine_0 17 rfl rfl)
theorem dX7_readLine_18 : decode cX7_readLine 18 = .ok (.iconst 2, 1) := dk_5 (dk_at dksX7_readLine_0 18 rfl rfl)
theorem dX7_readLine_19 : decode cX7_readLine 19 = .ok (.invokevirtual 90, 3) := dk_182 0 90 (dk_at dksX7_readLine_0 19 rfl rfl)
theorem dX7_readLine_22 : decode cX7_readLine 22 = .ok (.return_, 1) := dk_177 (dk_at dksX7_readLine_0 22 rfl rfl)
theorem dX7_readLine_23 : decode cX7_readLine 23 = .ok (.iload_n 1, 1) := dk_27 (dk_at dksX7_readLine_0 23 rfl rfl)
theorem dX7_readLine_24 : decode cX7_readLine 24 = .ok (.iconst 3, 1) := dk_6 (dk_at dksX7_readLine_1 0 rfl rfl)
theorem dX7_readLine_25 : decode cX7_readLine 25 = .ok (.if_icmp .gt 11, 3) := dk_163 0 11 (dk_at dksX7_readLine_1 1 rfl rfl)
theorem dX7_readLine_28 : decode cX7_readLine 28 = .ok (.aload_n 0, 1) := dk_42 (dk_at dksX7_readLine_1 4 rfl rfl)
theorem dX7_readLine_29 : decode cX7_readLine 29 = .ok (.getfield 104, 3) := dk_180 0 104 (dk_at dksX7_readLine_1 5 rfl rfl)
theorem dX7_readLine_32 : decode cX7_readLine 32 = .ok (.iconst 5, 1) := dk_8 (dk_at dksX7_readLine_1 8 rfl rfl)
theorem dX7_readLine_33 : decode cX7_readLine 33 = .ok (.if_icmp .eq 20, 3) := dk_159 0 20 (dk_at dksX7_readLine_1 9 rfl rfl)
theorem dX7_readLine_36 : decode cX7_readLine 36 = .ok (.iload_n 1, 1) := dk_27 (dk_at dksX7_readLine_1 12 rfl rfl)
theorem dX7_readLine_37 : decode cX7_readLine 37 = .ok (.iconst 4, 1) := dk_7 (dk_at dksX7_readLine_1 13 rfl rfl)
theorem dX7_readLine_38 : decode cX7_readLine 38 = .ok (.if_icmp .ne 20, 3) := dk_160 0 20 (dk_at dksX7_readLine_1 14 rfl rfl)
theorem dX7_readLine_41 : decode cX7_readLine 41 = .ok (.aload_n 0, 1) := dk_42 (dk_at dksX7_readLine_1 17 rfl rfl)
theorem dX7_readLine_42 : decode cX7_readLine 42 = .ok (.getfield 13, 3) := dk_180 0 13 (dk_at dksX7_readLine_1 18 rfl rfl)
theorem dX7_readLine_45 : decode cX7_readLine 45 = .ok (.bipush 40, 2) := dk_16 40 (dk_at dksX7_readLine_1 21 rfl rfl)
theorem dX7_readLine_47 : decode cX7_readLine 47 = .ok (.iaload, 1) := dk_46 (dk_at dksX7_readLine_1 23 rfl rfl)
theorem dX7_readLine_48 : decode cX7_readLine 48 = .ok (.bipush 10, 2) := dk_16 10 (dk_at dksX7_readLine_2 0 rfl rfl)
theorem dX7_readLine_50 : decode cX7_readLine 50 = .ok (.if_icmp .ne 8, 3) := dk_160 0 8 (dk_at dksX7_readLine_2 2 rfl rfl)
theorem dX7_readLine_53 : decode cX7_readLine 53 = .ok (.aload_n 0, 1) := dk_42 (dk_at dksX7_readLine_2 5 rfl rfl)
theorem dX7_readLine_54 : decode cX7_readLine 54 = .ok (.iconst 5, 1) := dk_8 (dk_at dksX7_readLine_2 6 rfl rfl)
theorem dX7_readLine_55 : decode cX7_readLine 55 = .ok (.invokevirtual 90, 3) := dk_182 0 90 (dk_at dksX7_readLine_2 7 rfl rfl)
theorem dX7_readLine_58 : decode cX7_readLine 58 = .ok (.aload_n 0, 1) := dk_42 (dk_at dksX7_readLine_2 10 rfl rfl)
theorem dX7_readLine_59 : decode cX7_readLine 59 = .ok (.invokevirtual 94, 3) := dk_182 0 94 (dk_at dksX7_readLine_2 11 rfl rfl)
theorem dX7_readLine_62 : decode cX7_readLine 62 = .ok (.aload_n 0, 1) := dk_42 (dk_at dksX7_readLine_2 14 rfl rfl)
theorem dX7_readLine_63 : decode cX7_readLine 63 = .ok (.getfield 60, 3) := dk_180 0 60 (dk_at dksX7_readLine_2 15 rfl rfl)
theorem dX7_readLine_66 : decode cX7_readLine 66 = .ok (.ifCond .le 4, 3) := dk_158 0 4 (dk_at dksX7_readLine_2 18 rfl rfl)
theorem dX7_readLine_69 : decode cX7_readLine 69 = .ok (.return_, 1) := dk_177 (dk_at dksX7_readLine_2 21 rfl rfl)
theorem dX7_readLine_70 : decode cX7_readLine 70 = .ok (.aload_n 0, 1) := dk_42 (dk_at dksX7_readLine_2 22 rfl rfl)
theorem dX7_readLine_71 : decode cX7_readLine 71 = .ok (.iload_n 1, 1) := dk_27 (dk_at dksX7_readLine_2 23 rfl rfl)
theorem dX7_readLine_72 : decode cX7_readLine 72 = .ok (.invokevirtual 116, 3) := dk_182 0 116 (dk_at dksX7_readLine_3 0 rfl rfl)
theorem dX7_readLine_75 : decode cX7_readLine 75 = .ok (.aload_n 0, 1) := dk_42 (dk_at dksX7_readLine_3 3 rfl rfl)
theorem dX7_readLine_76 : decode cX7_readLine 76 = .ok (.getfield 60, 3) := dk_180 0 60 (dk_at dksX7_readLine_3 4 rfl rfl)
theorem dX7_readLine_79 : decode cX7_readLine 79 = .ok (.ifCond .ne 16, 3) := dk_154 0 16 (dk_at dksX7_readLine_3 7 rfl rfl)
theorem dX7_readLine_82 : decode cX7_readLine 82 = .ok (.aload_n 0, 1) := dk_42 (dk_at dksX7_readLine_3 10 rfl rfl)
theorem dX7_readLine_83 : decode cX7_readLine 83 = .ok (.getfield 69, 3) := dk_180 0 69 (dk_at dksX7_readLine_3 11 rfl rfl)
theorem dX7_readLine_86 : decode cX7_readLine 86 = .ok (.iconst 3, 1) := dk_6 (dk_at dksX7_readLine_3 14 rfl rfl)
theorem dX7_readLine_87 : decode cX7_readLine 87 = .ok (.if_icmp .eq 8, 3) := dk_159 0 8 (dk_at dksX7_readLine_3 15 rfl rfl)
theorem dX7_readLine_90 : decode cX7_readLine 90 = .ok (.aload_n 0, 1) := dk_42 (dk_at dksX7_readLine_3 18 rfl rfl)
theorem dX7_readLine_91 : decode cX7_readLine 91 = .ok (.iconst 2, 1) := dk_5 (dk_at dksX7_readLine_3 19 rfl rfl)
theorem dX7_readLine_92 : decode cX7_readLine 92 = .ok (.invokevirtual 90, 3) := dk_182 0 90 (dk_at dksX7_readLine_3 20 rfl rfl)
theorem dX7_readLine_95 : decode cX7_readLine 95 = .ok (.aload_n 0, 1) := dk_42 (dk_at dksX7_readLine_3 23 rfl rfl)
theorem dX7_readLine_96 : decode cX7_readLine 96 = .ok (.invokevirtual 94, 3) := dk_182 0 94 (dk_at dksX7_readLine_4 0 rfl rfl)
theorem dX7_readLine_99 : decode cX7_readLine 99 = .ok (.return_, 1) := dk_177 (dk_at dksX7_readLine_4 3 rfl rfl)
abbrev cX7_nameHere : ByteArray := prog_11_method_8_code
def yX7_nameHere : MethodName := ⟨RX7, "nameHere", "()I"⟩
def dkwX7_nameHere_5 : List UInt8 := [16, 252, 172]
abbrev dktX7_nameHere_5 : List UInt8 := dkwX7_nameHere_5 ++ []
def dkwX7_nameHere_4 : List UInt8 := [167, 0, 4, 3, 61, 132, 3, 1, 167, 255, 204, 28, 153, 0, 5, 27, 172, 132, 1, 1, 167, 255, 144]
abbrev dktX7_nameHere_4 : List UInt8 := dkwX7_nameHere_4 ++ dktX7_nameHere_5
def dkwX7_nameHere_3 : List UInt8 := [29, 96, 182, 0, 75, 42, 180, 0, 22, 42, 180, 0, 19, 27, 46, 29, 96, 46, 160, 0, 7, 4]
abbrev dktX7_nameHere_3 : List UInt8 := dkwX7_nameHere_3 ++ dktX7_nameHere_4
def dkwX7_nameHere_2 : List UInt8 := [3, 62, 28, 153, 0, 54, 29, 42, 180, 0, 72, 42, 180, 0, 63, 100, 162, 0, 41, 42, 42, 180, 0, 63]
abbrev dktX7_nameHere_2 : List UInt8 := dkwX7_nameHere_2 ++ dktX7_nameHere_3
def dkwX7_nameHere_1 : List UInt8 := [42, 180, 0, 19, 27, 4, 96, 46, 42, 180, 0, 19, 27, 46, 100, 160, 0, 7, 4, 167, 0, 4, 3, 61]
abbrev dktX7_nameHere_1 : List UInt8 := dkwX7_nameHere_1 ++ dktX7_nameHere_2
def dkwX7_nameHere_0 : List UInt8 := [3, 60, 27, 8, 162, 0, 113, 42, 180, 0, 69, 4, 160, 0, 105, 42, 180, 0, 72, 42, 180, 0, 63, 100]
abbrev dktX7_nameHere_0 : List UInt8 := dkwX7_nameHere_0 ++ dktX7_nameHere_1
theorem dksX7_nameHere_0 : cX7_nameHere.data.toList.drop 0 = dktX7_nameHere_0 := by decide +kernel
theorem dksX7_nameHere_1 : cX7_nameHere.data.toList.drop 24 = dktX7_nameHere_1 := dk_seg dksX7_nameHere_0 24 rfl rfl
theorem dksX7_nameHere_2 : cX7_nameHere.data.toList.drop 48 = dktX7_nameHere_2 := dk_seg dksX7_nameHere_1 24 rfl rfl
theorem dksX7_nameHere_3 : cX7_nameHere.data.toList.drop 72 = dktX7_nameHere_3 := dk_seg dksX7_nameHere_2 24 rfl rfl
theorem dksX7_nameHere_4 : cX7_nameHere.data.toList.drop 94 = dktX7_nameHere_4 := dk_seg dksX7_nameHere_3 22 rfl rfl
theorem dksX7_nameHere_5 : cX7_nameHere.data.toList.drop 117 = dktX7_nameHere_5 := dk_seg dksX7_nameHere_4 23 rfl rfl
theorem dX7_nameHere_0 : decode cX7_nameHere 0 = .ok (.iconst 0, 1) := dk_3 (dk_at dksX7_nameHere_0 0 rfl rfl)
theorem dX7_nameHere_1 : decode cX7_nameHere 1 = .ok (.istore_n 1, 1) := dk_60 (dk_at dksX7_nameHere_0 1 rfl rfl)
theorem dX7_nameHere_2 : decode cX7_nameHere 2 = .ok (.iload_n 1, 1) := dk_27 (dk_at dksX7_nameHere_0 2 rfl rfl)
theorem dX7_nameHere_3 : decode cX7_nameHere 3 = .ok (.iconst 5, 1) := dk_8 (dk_at dksX7_nameHere_0 3 rfl rfl)
theorem dX7_nameHere_4 : decode cX7_nameHere 4 = .ok (.if_icmp .ge 113, 3) := dk_162 0 113 (dk_at dksX7_nameHere_0 4 rfl rfl)
theorem dX7_nameHere_7 : decode cX7_nameHere 7 = .ok (.aload_n 0, 1) := dk_42 (dk_at dksX7_nameHere_0 7 rfl rfl)
theorem dX7_nameHere_8 : decode cX7_nameHere 8 = .ok (.getfield 69, 3) := dk_180 0 69 (dk_at dksX7_nameHere_0 8 rfl rfl)
theorem dX7_nameHere_11 : decode cX7_nameHere 11 = .ok (.iconst 1, 1) := dk_4 (dk_at dksX7_nameHere_0 11 rfl rfl)
theorem dX7_nameHere_12 : decode cX7_nameHere 12 = .ok (.if_icmp .ne 105, 3) := dk_160 0 105 (dk_at dksX7_nameHere_0 12 rfl rfl)
theorem dX7_nameHere_15 : decode cX7_nameHere 15 = .ok (.aload_n 0, 1) := dk_42 (dk_at dksX7_nameHere_0 15 rfl rfl)
theorem dX7_nameHere_16 : decode cX7_nameHere 16 = .ok (.getfield 72, 3) := dk_180 0 72 (dk_at dksX7_nameHere_0 16 rfl rfl)
theorem dX7_nameHere_19 : decode cX7_nameHere 19 = .ok (.aload_n 0, 1) := dk_42 (dk_at dksX7_nameHere_0 19 rfl rfl)
theorem dX7_nameHere_20 : decode cX7_nameHere 20 = .ok (.getfield 63, 3) := dk_180 0 63 (dk_at dksX7_nameHere_0 20 rfl rfl)
theorem dX7_nameHere_23 : decode cX7_nameHere 23 = .ok (.isub, 1) := dk_100 (dk_at dksX7_nameHere_0 23 rfl rfl)
theorem dX7_nameHere_24 : decode cX7_nameHere 24 = .ok (.aload_n 0, 1) := dk_42 (dk_at dksX7_nameHere_1 0 rfl rfl)
theorem dX7_nameHere_25 : decode cX7_nameHere 25 = .ok (.getfield 19, 3) := dk_180 0 19 (dk_at dksX7_nameHere_1 1 rfl rfl)
theorem dX7_nameHere_28 : decode cX7_nameHere 28 = .ok (.iload_n 1, 1) := dk_27 (dk_at dksX7_nameHere_1 4 rfl rfl)
theorem dX7_nameHere_29 : decode cX7_nameHere 29 = .ok (.iconst 1, 1) := dk_4 (dk_at dksX7_nameHere_1 5 rfl rfl)
theorem dX7_nameHere_30 : decode cX7_nameHere 30 = .ok (.iadd, 1) := dk_96 (dk_at dksX7_nameHere_1 6 rfl rfl)
theorem dX7_nameHere_31 : decode cX7_nameHere 31 = .ok (.iaload, 1) := dk_46 (dk_at dksX7_nameHere_1 7 rfl rfl)
theorem dX7_nameHere_32 : decode cX7_nameHere 32 = .ok (.aload_n 0, 1) := dk_42 (dk_at dksX7_nameHere_1 8 rfl rfl)
theorem dX7_nameHere_33 : decode cX7_nameHere 33 = .ok (.getfield 19, 3) := dk_180 0 19 (dk_at dksX7_nameHere_1 9 rfl rfl)
theorem dX7_nameHere_36 : decode cX7_nameHere 36 = .ok (.iload_n 1, 1) := dk_27 (dk_at dksX7_nameHere_1 12 rfl rfl)
theorem dX7_nameHere_37 : decode cX7_nameHere 37 = .ok (.iaload, 1) := dk_46 (dk_at dksX7_nameHere_1 13 rfl rfl)
theorem dX7_nameHere_38 : decode cX7_nameHere 38 = .ok (.isub, 1) := dk_100 (dk_at dksX7_nameHere_1 14 rfl rfl)
theorem dX7_nameHere_39 : decode cX7_nameHere 39 = .ok (.if_icmp .ne 7, 3) := dk_160 0 7 (dk_at dksX7_nameHere_1 15 rfl rfl)
theorem dX7_nameHere_42 : decode cX7_nameHere 42 = .ok (.iconst 1, 1) := dk_4 (dk_at dksX7_nameHere_1 18 rfl rfl)
theorem dX7_nameHere_43 : decode cX7_nameHere 43 = .ok (.goto 4, 3) := dk_167 0 4 (dk_at dksX7_nameHere_1 19 rfl rfl)
theorem dX7_nameHere_46 : decode cX7_nameHere 46 = .ok (.iconst 0, 1) := dk_3 (dk_at dksX7_nameHere_1 22 rfl rfl)
theorem dX7_nameHere_47 : decode cX7_nameHere 47 = .ok (.istore_n 2, 1) := dk_61 (dk_at dksX7_nameHere_1 23 rfl rfl)
theorem dX7_nameHere_48 : decode cX7_nameHere 48 = .ok (.iconst 0, 1) := dk_3 (dk_at dksX7_nameHere_2 0 rfl rfl)
theorem dX7_nameHere_49 : decode cX7_nameHere 49 = .ok (.istore_n 3, 1) := dk_62 (dk_at dksX7_nameHere_2 1 rfl rfl)
theorem dX7_nameHere_50 : decode cX7_nameHere 50 = .ok (.iload_n 2, 1) := dk_28 (dk_at dksX7_nameHere_2 2 rfl rfl)
theorem dX7_nameHere_51 : decode cX7_nameHere 51 = .ok (.ifCond .eq 54, 3) := dk_153 0 54 (dk_at dksX7_nameHere_2 3 rfl rfl)
theorem dX7_nameHere_54 : decode cX7_nameHere 54 = .ok (.iload_n 3, 1) := dk_29 (dk_at dksX7_nameHere_2 6 rfl rfl)
theorem dX7_nameHere_55 : decode cX7_nameHere 55 = .ok (.aload_n 0, 1) := dk_42 (dk_at dksX7_nameHere_2 7 rfl rfl)
theorem dX7_nameHere_56 : decode cX7_nameHere 56 = .ok (.getfield 72, 3) := dk_180 0 72 (dk_at dksX7_nameHere_2 8 rfl rfl)
theorem dX7_nameHere_59 : decode cX7_nameHere 59 = .ok (.aload_n 0, 1) := dk_42 (dk_at dksX7_nameHere_2 11 rfl rfl)
theorem dX7_nameHere_60 : decode cX7_nameHere 60 = .ok (.getfield 63, 3) := dk_180 0 63 (dk_at dksX7_nameHere_2 12 rfl rfl)
theorem dX7_nameHere_63 : decode cX7_nameHere 63 = .ok (.isub, 1) := dk_100 (dk_at dksX7_nameHere_2 15 rfl rfl)
theorem dX7_nameHere_64 : decode cX7_nameHere 64 = .ok (.if_icmp .ge 41, 3) := dk_162 0 41 (dk_at dksX7_nameHere_2 16 rfl rfl)
theorem dX7_nameHere_67 : decode cX7_nameHere 67 = .ok (.aload_n 0, 1) := dk_42 (dk_at dksX7_nameHere_2 19 rfl rfl)
theorem dX7_nameHere_68 : decode cX7_nameHere 68 = .ok (.aload_n 0, 1) := dk_42 (dk_at dksX7_nameHere_2 20 rfl rfl)
theorem dX7_nameHere_69 : decode cX7_nameHere 69 = .ok (.getfield 63, 3) := dk_180 0 63 (dk_at dksX7_nameHere_2 21 rfl rfl)
theorem dX7_nameHere_72 : decode cX7_nameHere 72 = .ok (.iload_n 3, 1) := dk_29 (dk_at dksX7_nameHere_3 0 rfl rfl)
theorem dX7_nameHere_73 : decode cX7_nameHere 73 = .ok (.iadd, 1) := dk_96 (dk_at dksX7_nameHere_3 1 rfl rfl)
theorem dX7_nameHere_74 : decode cX7_nameHere 74 = .ok (.invokevirtual 75, 3) := dk_182 0 75 (dk_at dksX7_nameHere_3 2 rfl rfl)
theorem dX7_nameHere_77 : decode cX7_nameHere 77 = .ok (.aload_n 0, 1) := dk_42 (dk_at dksX7_nameHere_3 5 rfl rfl)
theorem dX7_nameHere_78 : decode cX7_nameHere 78 = .ok (.getfield 22, 3) := dk_180 0 22 (dk_at dksX7_nameHere_3 6 rfl rfl)
theorem dX7_nameHere_81 : decode cX7_nameHere 81 = .ok (.aload_n 0, 1) := dk_42 (dk_at dksX7_nameHere_3 9 rfl rfl)
theorem dX7_nameHere_82 : decode cX7_nameHere 82 = .ok (.getfield 19, 3) := dk_180 0 19 (dk_at dksX7_nameHere_3 10 rfl rfl)
theorem dX7_nameHere_85 : decode cX7_nameHere 85 = .ok (.iload_n 1, 1) := dk_27 (dk_at dksX7_nameHere_3 13 rfl rfl)
theorem dX7_nameHere_86 : decode cX7_nameHere 86 = .ok (.iaload, 1) := dk_46 (dk_at dksX7_nameHere_3 14 rfl rfl)
theorem dX7_nameHere_87 : decode cX7_nameHere 87 = .ok (.iload_n 3, 1) := dk_29 (dk_at dksX7_nameHere_3 15 rfl rfl)
theorem dX7_nameHere_88 : decode cX7_nameHere 88 = .ok (.iadd, 1) := dk_96 (dk_at dksX7_nameHere_3 16 rfl rfl)
theorem dX7_nameHere_89 : decode cX7_nameHere 89 = .ok (.iaload, 1) := dk_46 (dk_at dksX7_nameHere_3 17 rfl rfl)
theorem dX7_nameHere_90 : decode cX7_nameHere 90 = .ok (.if_icmp .ne 7, 3) := dk_160 0 7 (dk_at dksX7_nameHere_3 18 rfl rfl)
theorem dX7_nameHere_93 : decode cX7_nameHere 93 = .ok (.iconst 1, 1) := dk_4 (dk_at dksX7_nameHere_3 21 rfl rfl)
theorem dX7_nameHere_94 : decode cX7_nameHere 94 = .ok (.goto 4, 3) := dk_167 0 4 (dk_at dksX7_nameHere_4 0 rfl rfl)
theorem dX7_nameHere_97 : decode cX7_nameHere 97 = .ok (.iconst 0, 1) := dk_3 (dk_at dksX7_nameHere_4 3 rfl rfl)
theorem dX7_nameHere_98 : decode cX7_nameHere 98 = .ok (.istore_n 2, 1) := dk_61 (dk_at dksX7_nameHere_4 4 rfl rfl)
theorem dX7_nameHere_99 : decode cX7_nameHere 99 = .ok (.iinc 3 1, 3) := dk_132 3 1 (dk_at dksX7_nameHere_4 5 rfl rfl)
theorem dX7_nameHere_102 : decode cX7_nameHere 102 = .ok (.goto (-52), 3) := dk_167 255 204 (dk_at dksX7_nameHere_4 8 rfl rfl)
theorem dX7_nameHere_105 : decode cX7_nameHere 105 = .ok (.iload_n 2, 1) := dk_28 (dk_at dksX7_nameHere_4 11 rfl rfl)
theorem dX7_nameHere_106 : decode cX7_nameHere 106 = .ok (.ifCond .eq 5, 3) := dk_153 0 5 (dk_at dksX7_nameHere_4 12 rfl rfl)
theorem dX7_nameHere_109 : decode cX7_nameHere 109 = .ok (.iload_n 1, 1) := dk_27 (dk_at dksX7_nameHere_4 15 rfl rfl)
theorem dX7_nameHere_110 : decode cX7_nameHere 110 = .ok (.ireturn, 1) := dk_172 (dk_at dksX7_nameHere_4 16 rfl rfl)
theorem dX7_nameHere_111 : decode cX7_nameHere 111 = .ok (.iinc 1 1, 3) := dk_132 1 1 (dk_at dksX7_nameHere_4 17 rfl rfl)
theorem dX7_nameHere_114 : decode cX7_nameHere 114 = .ok (.goto (-112), 3) := dk_167 255 144 (dk_at dksX7_nameHere_4 20 rfl rfl)
theorem dX7_nameHere_117 : decode cX7_nameHere 117 = .ok (.bipush (-4), 2) := dk_16 252 (dk_at dksX7_nameHere_5 0 rfl rfl)
theorem dX7_nameHere_119 : decode cX7_nameHere 119 = .ok (.ireturn, 1) := dk_172 (dk_at dksX7_nameHere_5 2 rfl rfl)
abbrev cX7_readMore : ByteArray := prog_11_method_12_code
def yX7_readMore : MethodName := ⟨RX7, "readMore", "(I)V"⟩
def dkwX7_readMore_4 : List UInt8 := [180, 0, 13, 16, 30, 28, 96, 42, 182, 0, 107, 79, 42, 180, 0, 13, 16, 40, 92, 46, 4, 96, 79, 177]
abbrev dktX7_readMore_4 : List UInt8 := dkwX7_readMore_4 ++ []
def dkwX7_readMore_3 : List UInt8 := [42, 180, 0, 79, 29, 160, 0, 8, 42, 6, 182, 0, 90, 42, 180, 0, 13, 16, 20, 28, 96, 29, 79, 42]
abbrev dktX7_readMore_3 : List UInt8 := dkwX7_readMore_3 ++ dktX7_readMore_4
def dkwX7_readMore_2 : List UInt8 := [16, 40, 46, 61, 42, 182, 0, 107, 62, 42, 180, 0, 60, 154, 0, 24, 42, 180, 0, 69, 5, 160, 0, 16]
abbrev dktX7_readMore_2 : List UInt8 := dkwX7_readMore_2 ++ dktX7_readMore_3
def dkwX7_readMore_1 : List UInt8 := [96, 42, 3, 16, 20, 182, 0, 97, 79, 42, 89, 180, 0, 104, 4, 96, 181, 0, 104, 177, 42, 180, 0, 13]
abbrev dktX7_readMore_1 : List UInt8 := dkwX7_readMore_1 ++ dktX7_readMore_2
def dkwX7_readMore_0 : List UInt8 := [27, 6, 163, 0, 42, 42, 180, 0, 13, 42, 180, 0, 104, 27, 79, 42, 180, 0, 13, 8, 42, 180, 0, 104]
abbrev dktX7_readMore_0 : List UInt8 := dkwX7_readMore_0 ++ dktX7_readMore_1
theorem dksX7_readMore_0 : cX7_readMore.data.toList.drop 0 = dktX7_readMore_0 := by decide +kernel
theorem dksX7_readMore_1 : cX7_readMore.data.toList.drop 24 = dktX7_readMore_1 := dk_seg dksX7_readMore_0 24 rfl rfl
theorem dksX7_readMore_2 : cX7_readMore.data.toList.drop 48 = dktX7_readMore_2 := dk_seg dksX7_readMore_1 24 rfl rfl
theorem dksX7_readMore_3 : cX7_readMore.data.toList.drop 72 = dktX7_readMore_3 := dk_seg dksX7_readMore_2 24 rfl rfl
theorem dksX7_readMore_4 : cX7_readMore.data.toList.drop 96 = dktX7_readMore_4 := dk_seg dksX7_readMore_3 24 rfl rfl
theorem dX7_readMore_0 : decode cX7_readMore 0 = .ok (.iload_n 1, 1) := dk_27 (dk_at dksX7_readMore_0 0 rfl rfl)
theorem dX7_readMore_1 : decode cX7_readMore 1 = .ok (.iconst 3, 1) := dk_6 (dk_at dksX7_readMore_0 1 rfl rfl)
theorem dX7_readMore_2 : decode cX7_readMore 2 = .ok (.if_icmp .gt 42, 3) := dk_163 0 42 (dk_at dksX7_readMore_0 2 rfl rfl)
theorem dX7_readMore_5 : decode cX7_readMore 5 = .ok (.aload_n 0, 1) := dk_42 (dk_at dksX7_readMore_0 5 rfl rfl)
theorem dX7_readMore_6 : decode cX7_readMore 6 = .ok (.getfield 13, 3) := dk_180 0 13 (dk_at dksX7_readMore_0 6 rfl rfl)
theorem dX7_readMore_9 : decode cX7_readMore 9 = .ok (.aload_n 0, 1) := dk_42 (dk_at dksX7_readMore_0 9 rfl rfl)
theorem dX7_readMore_10 : decode cX7_readMore 10 = .ok (.getfield 104, 3) := dk_180 0 104 (dk_at dksX7_readMore_0 10 rfl rfl)
theorem dX7_readMore_13 : decode cX7_readMore 13 = .ok (.iload_n 1, 1) := dk_27 (dk_at dksX7_readMore_0 13 rfl rfl)
theorem dX7_readMore_14 : decode cX7_readMore 14 = .ok (.iastore, 1) := dk_79 (dk_at dksX7_readMore_0 14 rfl rfl)
theorem dX7_readMore_15 : decode cX7_readMore 15 = .ok (.aload_n 0, 1) := dk_42 (dk_at dksX7_readMore_0 15 rfl rfl)
theorem dX7_readMore_16 : decode cX7_readMore 16 = .ok (.getfield 13, 3) := dk_180 0 13 (dk_at dksX7_readMore_0 16 rfl rfl)
theorem dX7_readMore_19 : decode cX7_readMore 19 = .ok (.iconst 5, 1) := dk_8 (dk_at dksX7_readMore_0 19 rfl rfl)
theorem dX7_readMore_20 : decode cX7_readMore 20 = .ok (.aload_n 0, 1) := dk_42 (dk_at dksX7_readMore_0 20 rfl rfl)
theorem dX7_readMore_21 : decode cX7_readMore 21 = .ok (.getfield 104, 3) := dk_180 0 104 (dk_at dksX7_readMore_0 21 rfl rfl)
theorem dX7_readMore_24 : decode cX7_readMore 24 = .ok (.iadd, 1) := dk_96 (dk_at dksX7_readMore_1 0 rfl rfl)
theorem dX7_readMore_25 : decode cX7_readMore 25 = .ok (.aload_n 0, 1) := dk_42 (dk_at dksX7_readMore_1 1 rfl rfl)
theorem dX7_readMore_26 : decode cX7_readMore 26 = .ok (.iconst 0, 1) := dk_3 (dk_at dksX7_readMore_1 2 rfl rfl)
theorem dX7_readMore_27 : decode cX7_readMore 27 = .ok (.bipush 20, 2) := dk_16 20 (dk_at dksX7_readMore_1 3 rfl rfl)
theorem dX7_readMore_29 : decode cX7_readMore 29 = .ok (.invokevirtual 97, 3) := dk_182 0 97 (dk_at dksX7_readMore_1 5 rfl rfl)
theorem dX7_readMore_32 : decode cX7_readMore 32 = .ok (.iastore, 1) := dk_79 (dk_at dksX7_readMore_1 8 rfl rfl)
theorem dX7_readMore_33 : decode cX7_readMore 33 = .ok (.aload_n 0, 1) := dk_42 (dk_at dksX7_readMore_1 9 rfl rfl)
theorem dX7_readMore_34 : decode cX7_readMore 34 = .ok (.dup, 1) := dk_89 (dk_at dksX7_readMore_1 10 rfl rfl)
theorem dX7_readMore_35 : decode cX7_readMore 35 = .ok (.getfield 104, 3) := dk_180 0 104 (dk_at dksX7_readMore_1 11 rfl rfl)
theorem dX7_readMore_38 : decode cX7_readMore 38 = .ok (.iconst 1, 1) := dk_4 (dk_at dksX7_readMore_1 14 rfl rfl)
theorem dX7_readMore_39 : decode cX7_readMore 39 = .ok (.iadd, 1) := dk_96 (dk_at dksX7_readMore_1 15 rfl rfl)
theorem dX7_readMore_40 : decode cX7_readMore 40 = .ok (.putfield 104, 3) := dk_181 0 104 (dk_at dksX7_readMore_1 16 rfl rfl)
theorem dX7_readMore_43 : decode cX7_readMore 43 = .ok (.return_, 1) := dk_177 (dk_at dksX7_readMore_1 19 rfl rfl)
theorem dX7_readMore_44 : decode cX7_readMore 44 = .ok (.aload_n 0, 1) := dk_42 (dk_at dksX7_readMore_1 20 rfl rfl)
theorem dX7_readMore_45 : decode cX7_readMore 45 = .ok (.getfield 13, 3) := dk_180 0 13 (dk_at dksX7_readMore_1 21 rfl rfl)
theorem dX7_readMore_48 : decode cX7_readMore 48 = .ok (.bipush 40, 2) := dk_16 40 (dk_at dksX7_readMore_2 0 rfl rfl)
theorem dX7_readMore_50 : decode cX7_readMore 50 = .ok (.iaload, 1) := dk_46 (dk_at dksX7_readMore_2 2 rfl rfl)
theorem dX7_readMore_51 : decode cX7_readMore 51 = .ok (.istore_n 2, 1) := dk_61 (dk_at dksX7_readMore_2 3 rfl rfl)
theorem dX7_readMore_52 : decode cX7_readMore 52 = .ok (.aload_n 0, 1) := dk_42 (dk_at dksX7_readMore_2 4 rfl rfl)
theorem dX7_readMore_53 : decode cX7_readMore 53 = .ok (.invokevirtual 107, 3) := dk_182 0 107 (dk_at dksX7_readMore_2 5 rfl rfl)
theorem dX7_readMore_56 : decode cX7_readMore 56 = .ok (.istore_n 3, 1) := dk_62 (dk_at dksX7_readMore_2 8 rfl rfl)
theorem dX7_readMore_57 : decode cX7_readMore 57 = .ok (.aload_n 0, 1) := dk_42 (dk_at dksX7_readMore_2 9 rfl rfl)
theorem dX7_readMore_58 : decode cX7_readMore 58 = .ok (.getfield 60, 3) := dk_180 0 60 (dk_at dksX7_readMore_2 10 rfl rfl)
theorem dX7_readMore_61 : decode cX7_readMore 61 = .ok (.ifCond .ne 24, 3) := dk_154 0 24 (dk_at dksX7_readMore_2 13 rfl rfl)
theorem dX7_readMore_64 : decode cX7_readMore 64 = .ok (.aload_n 0, 1) := dk_42 (dk_at dksX7_readMore_2 16 rfl rfl)
theorem dX7_readMore_65 : decode cX7_readMore 65 = .ok (.getfield 69, 3) := dk_180 0 69 (dk_at dksX7_readMore_2 17 rfl rfl)
theorem dX7_readMore_68 : decode cX7_readMore 68 = .ok (.iconst 2, 1) := dk_5 (dk_at dksX7_readMore_2 20 rfl rfl)
theorem dX7_readMore_69 : decode cX7_readMore 69 = .ok (.if_icmp .ne 16, 3) := dk_160 0 16 (dk_at dksX7_readMore_2 21 rfl rfl)
theorem dX7_readMore_72 : decode cX7_readMore 72 = .ok (.aload_n 0, 1) := dk_42 (dk_at dksX7_readMore_3 0 rfl rfl)
theorem dX7_readMore_73 : decode cX7_readMore 73 = .ok (.getfield 79, 3) := dk_180 0 79 (dk_at dksX7_readMore_3 1 rfl rfl)
theorem dX7_readMore_76 : decode cX7_readMore 76 = .ok (.iload_n 3, 1) := dk_29 (dk_at dksX7_readMore_3 4 rfl rfl)
theorem dX7_readMore_77 : decode cX7_readMore 77 = .ok (.if_icmp .ne 8, 3) := dk_160 0 8 (dk_at dksX7_readMore_3 5 rfl rfl)
theorem dX7_readMore_80 : decode cX7_readMore 80 = .ok (.aload_n 0, 1) := dk_42 (dk_at dksX7_readMore_3 8 rfl rfl)
theorem dX7_readMore_81 : decode cX7_readMore 81 = .ok (.iconst 3, 1) := dk_6 (dk_at dksX7_readMore_3 9 rfl rfl)
theorem dX7_readMore_82 : decode cX7_readMore 82 = .ok (.invokevirtual 90, 3) := dk_182 0 90 (dk_at dksX7_readMore_3 10 rfl rfl)
theorem dX7_readMore_85 : decode cX7_readMore 85 = .ok (.aload_n 0, 1) := dk_42 (dk_at dksX7_readMore_3 13 rfl rfl)
theorem dX7_readMore_86 : decode cX7_readMore 86 = .ok (.getfield 13, 3) := dk_180 0 13 (dk_at dksX7_readMore_3 14 rfl rfl)
theorem dX7_readMore_89 : decode cX7_readMore 89 = .ok (.bipush 20, 2) := dk_16 20 (dk_at dksX7_readMore_3 17 rfl rfl)
theorem dX7_readMore_91 : decode cX7_readMore 91 = .ok (.iload_n 2, 1) := dk_28 (dk_at dksX7_readMore_3 19 rfl rfl)
theorem dX7_readMore_92 : decode cX7_readMore 92 = .ok (.iadd, 1) := dk_96 (dk_at dksX7_readMore_3 20 rfl rfl)
theorem dX7_readMore_93 : decode cX7_readMore 93 = .ok (.iload_n 3, 1) := dk_29 (dk_at dksX7_readMore_3 21 rfl rfl)
theorem dX7_readMore_94 : decode cX7_readMore 94 = .ok (.iastore, 1) := dk_79 (dk_at dksX7_readMore_3 22 rfl rfl)
theorem dX7_readMore_95 : decode cX7_readMore 95 = .ok (.aload_n 0, 1) := dk_42 (dk_at dksX7_readMore_3 23 rfl rfl)
theorem dX7_readMore_96 : decode cX7_readMore 96 = .ok (.getfield 13, 3) := dk_180 0 13 (dk_at dksX7_readMore_4 0 rfl rfl)
theorem dX7_readMore_99 : decode cX7_readMore 99 = .ok (.bipush 30, 2) := dk_16 30 (dk_at dksX7_readMore_4 3 rfl rfl)
theorem dX7_readMore_101 : decode cX7_readMore 101 = .ok (.iload_n 2, 1) := dk_28 (dk_at dksX7_readMore_4 5 rfl rfl)
theorem dX7_readMore_102 : decode cX7_readMore 102 = .ok (.iadd, 1) := dk_96 (dk_at dksX7_readMore_4 6 rfl rfl)
theorem dX7_readMore_103 : decode cX7_readMore 103 = .ok (.aload_n 0, 1) := dk_42 (dk_at dksX7_readMore_4 7 rfl rfl)
theorem dX7_readMore_104 : decode cX7_readMore 104 = .ok (.invokevirtual 107, 3) := dk_182 0 107 (dk_at dksX7_readMore_4 8 rfl rfl)
theorem dX7_readMore_107 : decode cX7_readMore 107 = .ok (.iastore, 1) := dk_79 (dk_at dksX7_readMore_4 11 rfl rfl)
theorem dX7_readMore_108 : decode cX7_readMore 108 = .ok (.aload_n 0, 1) := dk_42 (dk_at dksX7_readMore_4 12 rfl rfl)
theorem dX7_readMore_109 : decode cX7_readMore 109 = .ok (.getfield 13, 3) := dk_180 0 13 (dk_at dksX7_readMore_4 13 rfl rfl)
theorem dX7_readMore_112 : decode cX7_readMore 112 = .ok (.bipush 40, 2) := dk_16 40 (dk_at dksX7_readMore_4 16 rfl rfl)
theorem dX7_readMore_114 : decode cX7_readMore 114 = .ok (.dup2, 1) := dk_92 (dk_at dksX7_readMore_4 18 rfl rfl)
theorem dX7_readMore_115 : decode cX7_readMore 115 = .ok (.iaload, 1) := dk_46 (dk_at dksX7_readMore_4 19 rfl rfl)
theorem dX7_readMore_116 : decode cX7_readMore 116 = .ok (.iconst 1, 1) := dk_4 (dk_at dksX7_readMore_4 20 rfl rfl)
theorem dX7_readMore_117 : decode cX7_readMore 117 = .ok (.iadd, 1) := dk_96 (dk_at dksX7_readMore_4 21 rfl rfl)
theorem dX7_readMore_118 : decode cX7_readMore 118 = .ok (.iastore, 1) := dk_79 (dk_at dksX7_readMore_4 22 rfl rfl)
theorem dX7_readMore_119 : decode cX7_readMore 119 = .ok (.return_, 1) := dk_177 (dk_at dksX7_readMore_4 23 rfl rfl)
abbrev cX7_number : ByteArray := prog_11_method_10_code
def yX7_number : MethodName := ⟨RX7, "number", "(II)I"⟩
def dkwX7_number_2 : List UInt8 := [180, 0, 60, 154, 0, 10, 42, 180, 0, 79, 167, 0, 4, 27, 62, 42, 182, 0, 94, 29, 172]
abbrev dktX7_number_2 : List UInt8 := dkwX7_number_2 ++ []
def dkwX7_number_1 : List UInt8 := [154, 0, 23, 42, 180, 0, 79, 133, 27, 133, 28, 133, 184, 0, 53, 154, 0, 8, 42, 6, 182, 0, 90, 42]
abbrev dktX7_number_1 : List UInt8 := dkwX7_number_1 ++ dktX7_number_2
def dkwX7_number_0 : List UInt8 := [42, 180, 0, 60, 154, 0, 16, 42, 180, 0, 69, 5, 159, 0, 8, 42, 5, 182, 0, 90, 42, 180, 0, 60]
abbrev dktX7_number_0 : List UInt8 := dkwX7_number_0 ++ dktX7_number_1
theorem dksX7_number_0 : cX7_number.data.toList.drop 0 = dktX7_number_0 := by decide +kernel
theorem dksX7_number_1 : cX7_number.data.toList.drop 24 = dktX7_number_1 := dk_seg dksX7_number_0 24 rfl rfl
theorem dksX7_number_2 : cX7_number.data.toList.drop 48 = dktX7_number_2 := dk_seg dksX7_number_1 24 rfl rfl
theorem dX7_number_0 : decode cX7_number 0 = .ok (.aload_n 0, 1) := dk_42 (dk_at dksX7_number_0 0 rfl rfl)
theorem dX7_number_1 : decode cX7_number 1 = .ok (.getfield 60, 3) := dk_180 0 60 (dk_at dksX7_number_0 1 rfl rfl)
theorem dX7_number_4 : decode cX7_number 4 = .ok (.ifCond .ne 16, 3) := dk_154 0 16 (dk_at dksX7_number_0 4 rfl rfl)
theorem dX7_number_7 : decode cX7_number 7 = .ok (.aload_n 0, 1) := dk_42 (dk_at dksX7_number_0 7 rfl rfl)
theorem dX7_number_8 : decode cX7_number 8 = .ok (.getfield 69, 3) := dk_180 0 69 (dk_at dksX7_number_0 8 rfl rfl)
theorem dX7_number_11 : decode cX7_number 11 = .ok (.iconst 2, 1) := dk_5 (dk_at dksX7_number_0 11 rfl rfl)
theorem dX7_number_12 : decode cX7_number 12 = .ok (.if_icmp .eq 8, 3) := dk_159 0 8 (dk_at dksX7_number_0 12 rfl rfl)
theorem dX7_number_15 : decode cX7_number 15 = .ok (.aload_n 0, 1) := dk_42 (dk_at dksX7_number_0 15 rfl rfl)
theorem dX7_number_16 : decode cX7_number 16 = .ok (.iconst 2, 1) := dk_5 (dk_at dksX7_number_0 16 rfl rfl)
theorem dX7_number_17 : decode cX7_number 17 = .ok (.invokevirtual 90, 3) := dk_182 0 90 (dk_at dksX7_number_0 17 rfl rfl)
theorem dX7_number_20 : decode cX7_number 20 = .ok (.aload_n 0, 1) := dk_42 (dk_at dksX7_number_0 20 rfl rfl)
theorem dX7_number_21 : decode cX7_number 21 = .ok (.getfield 60, 3) := dk_180 0 60 (dk_at dksX7_number_0 21 rfl rfl)
theorem dX7_number_24 : decode cX7_number 24 = .ok (.ifCond .ne 23, 3) := dk_154 0 23 (dk_at dksX7_number_1 0 rfl rfl)
theorem dX7_number_27 : decode cX7_number 27 = .ok (.aload_n 0, 1) := dk_42 (dk_at dksX7_number_1 3 rfl rfl)
theorem dX7_number_28 : decode cX7_number 28 = .ok (.getfield 79, 3) := dk_180 0 79 (dk_at dksX7_number_1 4 rfl rfl)
theorem dX7_number_31 : decode cX7_number 31 = .ok (.i2l, 1) := dk_133 (dk_at dksX7_number_1 7 rfl rfl)
theorem dX7_number_32 : decode cX7_number 32 = .ok (.iload_n 1, 1) := dk_27 (dk_at dksX7_number_1 8 rfl rfl)
theorem dX7_number_33 : decode cX7_number 33 = .ok (.i2l, 1) := dk_133 (dk_at dksX7_number_1 9 rfl rfl)
theorem dX7_number_34 : decode cX7_number 34 = .ok (.iload_n 2, 1) := dk_28 (dk_at dksX7_number_1 10 rfl rfl)
theorem dX7_number_35 : decode cX7_number 35 = .ok (.i2l, 1) := dk_133 (dk_at dksX7_number_1 11 rfl rfl)
theorem dX7_number_36 : decode cX7_number 36 = .ok (.invokestatic 53, 3) := dk_184 0 53 (dk_at dksX7_number_1 12 rfl rfl)
theorem dX7_number_39 : decode cX7_number 39 = .ok (.ifCond .ne 8, 3) := dk_154 0 8 (dk_at dksX7_number_1 15 rfl rfl)
theorem dX7_number_42 : decode cX7_number 42 = .ok (.aload_n 0, 1) := dk_42 (dk_at dksX7_number_1 18 rfl rfl)
theorem dX7_number_43 : decode cX7_number 43 = .ok (.iconst 3, 1) := dk_6 (dk_at dksX7_number_1 19 rfl rfl)
theorem dX7_number_44 : decode cX7_number 44 = .ok (.invokevirtual 90, 3) := dk_182 0 90 (dk_at dksX7_number_1 20 rfl rfl)
theorem dX7_number_47 : decode cX7_number 47 = .ok (.aload_n 0, 1) := dk_42 (dk_at dksX7_number_1 23 rfl rfl)
theorem dX7_number_48 : decode cX7_number 48 = .ok (.getfield 60, 3) := dk_180 0 60 (dk_at dksX7_number_2 0 rfl rfl)
theorem dX7_number_51 : decode cX7_number 51 = .ok (.ifCond .ne 10, 3) := dk_154 0 10 (dk_at dksX7_number_2 3 rfl rfl)
theorem dX7_number_54 : decode cX7_number 54 = .ok (.aload_n 0, 1) := dk_42 (dk_at dksX7_number_2 6 rfl rfl)
theorem dX7_number_55 : decode cX7_number 55 = .ok (.getfield 79, 3) := dk_180 0 79 (dk_at dksX7_number_2 7 rfl rfl)
theorem dX7_number_58 : decode cX7_number 58 = .ok (.goto 4, 3) := dk_167 0 4 (dk_at dksX7_number_2 10 rfl rfl)
theorem dX7_number_61 : decode cX7_number 61 = .ok (.iload_n 1, 1) := dk_27 (dk_at dksX7_number_2 13 rfl rfl)
theorem dX7_number_62 : decode cX7_number 62 = .ok (.istore_n 3, 1) := dk_62 (dk_at dksX7_number_2 14 rfl rfl)
theorem dX7_number_63 : decode cX7_number 63 = .ok (.aload_n 0, 1) := dk_42 (dk_at dksX7_number_2 15 rfl rfl)
theorem dX7_number_64 : decode cX7_number 64 = .ok (.invokevirtual 94, 3) := dk_182 0 94 (dk_at dksX7_number_2 16 rfl rfl)
theorem dX7_number_67 : decode cX7_number 67 = .ok (.iload_n 3, 1) := dk_29 (dk_at dksX7_number_2 19 rfl rfl)
theorem dX7_number_68 : decode cX7_number 68 = .ok (.ireturn, 1) := dk_172 (dk_at dksX7_number_2 20 rfl rfl)
abbrev cX7_townHere : ByteArray := prog_11_method_11_code
def yX7_townHere : MethodName := ⟨RX7, "townHere", "()I"⟩
def dkwX7_townHere_1 : List UInt8 := [181, 0, 101, 27, 172]
abbrev dktX7_townHere_1 : List UInt8 := dkwX7_townHere_1 ++ []
def dkwX7_townHere_0 : List UInt8 := [42, 3, 7, 182, 0, 97, 60, 42, 27, 42, 180, 0, 101, 164, 0, 7, 27, 167, 0, 7, 42, 180, 0, 101]
abbrev dktX7_townHere_0 : List UInt8 := dkwX7_townHere_0 ++ dktX7_townHere_1
theorem dksX7_townHere_0 : cX7_townHere.data.toList.drop 0 = dktX7_townHere_0 := by decide +kernel
theorem dksX7_townHere_1 : cX7_townHere.data.toList.drop 24 = dktX7_townHere_1 := dk_seg dksX7_townHere_0 24 rfl rfl
theorem dX7_townHere_0 : decode cX7_townHere 0 = .ok (.aload_n 0, 1) := dk_42 (dk_at dksX7_townHere_0 0 rfl rfl)
theorem dX7_townHere_1 : decode cX7_townHere 1 = .ok (.iconst 0, 1) := dk_3 (dk_at dksX7_townHere_0 1 rfl rfl)
theorem dX7_townHere_2 : decode cX7_townHere 2 = .ok (.iconst 4, 1) := dk_7 (dk_at dksX7_townHere_0 2 rfl rfl)
theorem dX7_townHere_3 : decode cX7_townHere 3 = .ok (.invokevirtual 97, 3) := dk_182 0 97 (dk_at dksX7_townHere_0 3 rfl rfl)
theorem dX7_townHere_6 : decode cX7_townHere 6 = .ok (.istore_n 1, 1) := dk_60 (dk_at dksX7_townHere_0 6 rfl rfl)
theorem dX7_townHere_7 : decode cX7_townHere 7 = .ok (.aload_n 0, 1) := dk_42 (dk_at dksX7_townHere_0 7 rfl rfl)
theorem dX7_townHere_8 : decode cX7_townHere 8 = .ok (.iload_n 1, 1) := dk_27 (dk_at dksX7_townHere_0 8 rfl rfl)
theorem dX7_townHere_9 : decode cX7_townHere 9 = .ok (.aload_n 0, 1) := dk_42 (dk_at dksX7_townHere_0 9 rfl rfl)
theorem dX7_townHere_10 : decode cX7_townHere 10 = .ok (.getfield 101, 3) := dk_180 0 101 (dk_at dksX7_townHere_0 10 rfl rfl)
theorem dX7_townHere_13 : decode cX7_townHere 13 = .ok (.if_icmp .le 7, 3) := dk_164 0 7 (dk_at dksX7_townHere_0 13 rfl rfl)
theorem dX7_townHere_16 : decode cX7_townHere 16 = .ok (.iload_n 1, 1) := dk_27 (dk_at dksX7_townHere_0 16 rfl rfl)
theorem dX7_townHere_17 : decode cX7_townHere 17 = .ok (.goto 7, 3) := dk_167 0 7 (dk_at dksX7_townHere_0 17 rfl rfl)
theorem dX7_townHere_20 : decode cX7_townHere 20 = .ok (.aload_n 0, 1) := dk_42 (dk_at dksX7_townHere_0 20 rfl rfl)
theorem dX7_townHere_21 : decode cX7_townHere 21 = .ok (.getfield 101, 3) := dk_180 0 101 (dk_at dksX7_townHere_0 21 rfl rfl)
theorem dX7_townHere_24 : decode cX7_townHere 24 = .ok (.putfield 101, 3) := dk_181 0 101 (dk_at dksX7_townHere_1 0 rfl rfl)
theorem dX7_townHere_27 : decode cX7_townHere 27 = .ok (.iload_n 1, 1) := dk_27 (dk_at dksX7_townHere_1 3 rfl rfl)
theorem dX7_townHere_28 : decode cX7_townHere 28 = .ok (.ireturn, 1) := dk_172 (dk_at dksX7_townHere_1 4 rfl rfl)
abbrev cX7_fault : ByteArray := prog_11_method_15_code
def yX7_fault : MethodName := ⟨RX7, "fault", "()I"⟩
theorem dX7_fault_0 : decode cX7_fault 0 = .ok (.aload_n 0, 1) := by decide +kernel
theorem dX7_fault_1 : decode cX7_fault 1 = .ok (.getfield 122, 3) := by decide +kernel
theorem dX7_fault_4 : decode cX7_fault 4 = .ok (.ireturn, 1) := by decide +kernel
abbrev cX7_rule : ByteArray := prog_11_method_27_code
def yX7_rule : MethodName := ⟨RX7, "rule", "(I)I"⟩
def dkwX7_rule_3 : List UInt8 := [182, 0, 151, 172, 42, 3, 182, 0, 161, 172, 42, 3, 182, 0, 164, 172, 2, 172]
abbrev dktX7_rule_3 : List UInt8 := dkwX7_rule_3 ++ []
def dkwX7_rule_2 : List UInt8 := [42, 180, 0, 125, 172, 42, 180, 0, 7, 16, 40, 46, 172, 42, 180, 0, 7, 16, 41, 46, 172, 42, 3]
abbrev dktX7_rule_2 : List UInt8 := dkwX7_rule_2 ++ dktX7_rule_3
def dkwX7_rule_1 : List UInt8 := [170, 0, 0, 0, 0, 0, 78, 0, 0, 0, 0, 0, 0, 0, 5, 0, 0, 0, 39, 0, 0, 0, 44, 0, 0, 0, 52, 0, 0, 0, 60, 0, 0, 0, 66, 0, 0, 0, 72]
abbrev dktX7_rule_1 : List UInt8 := dkwX7_rule_1 ++ dktX7_rule_2
def dkwX7_rule_0 : List UInt8 := [27]
abbrev dktX7_rule_0 : List UInt8 := dkwX7_rule_0 ++ dktX7_rule_1
theorem dksX7_rule_0 : cX7_rule.data.toList.drop 0 = dktX7_rule_0 := by decide +kernel
theorem dksX7_rule_1 : cX7_rule.data.toList.drop 1 = dktX7_rule_1 := dk_seg dksX7_rule_0 1 rfl rfl
theorem dksX7_rule_2 : cX7_rule.data.toList.drop 40 = dktX7_rule_2 := dk_seg dksX7_rule_1 39 rfl rfl
theorem dksX7_rule_3 : cX7_rule.data.toList.drop 63 = dktX7_rule_3 := dk_seg dksX7_rule_2 23 rfl rfl
theorem dX7_rule_0 : decode cX7_rule 0 = .ok (.iload_n 1, 1) := dk_27 (dk_at dksX7_rule_0 0 rfl rfl)
theorem dX7_rule_1 : decode cX7_rule 1 = .ok (.tableswitch 78 0 5 #[39, 44, 52, 60, 66, 72], 39) := by decide +kernel
theorem dX7_rule_40 : decode cX7_rule 40 = .ok (.aload_n 0, 1) := dk_42 (dk_at dksX7_rule_2 0 rfl rfl)
theorem dX7_rule_41 : decode cX7_rule 41 = .ok (.getfield 125, 3) := dk_180 0 125 (dk_at dksX7_rule_2 1 rfl rfl)
theorem dX7_rule_44 : decode cX7_rule 44 = .ok (.ireturn, 1) := dk_172 (dk_at dksX7_rule_2 4 rfl rfl)
theorem dX7_rule_45 : decode cX7_rule 45 = .ok (.aload_n 0, 1) := dk_42 (dk_at dksX7_rule_2 5 rfl rfl)
theorem dX7_rule_46 : decode cX7_rule 46 = .ok (.getfield 7, 3) := dk_180 0 7 (dk_at dksX7_rule_2 6 rfl rfl)
theorem dX7_rule_49 : decode cX7_rule 49 = .ok (.bipush 40, 2) := dk_16 40 (dk_at dksX7_rule_2 9 rfl rfl)
theorem dX7_rule_51 : decode cX7_rule 51 = .ok (.iaload, 1) := dk_46 (dk_at dksX7_rule_2 11 rfl rfl)
theorem dX7_rule_52 : decode cX7_rule 52 = .ok (.ireturn, 1) := dk_172 (dk_at dksX7_rule_2 12 rfl rfl)
theorem dX7_rule_53 : decode cX7_rule 53 = .ok (.aload_n 0, 1) := dk_42 (dk_at dksX7_rule_2 13 rfl rfl)
theorem dX7_rule_54 : decode cX7_rule 54 = .ok (.getfield 7, 3) := dk_180 0 7 (dk_at dksX7_rule_2 14 rfl rfl)
theorem dX7_rule_57 : decode cX7_rule 57 = .ok (.bipush 41, 2) := dk_16 41 (dk_at dksX7_rule_2 17 rfl rfl)
theorem dX7_rule_59 : decode cX7_rule 59 = .ok (.iaload, 1) := dk_46 (dk_at dksX7_rule_2 19 rfl rfl)
theorem dX7_rule_60 : decode cX7_rule 60 = .ok (.ireturn, 1) := dk_172 (dk_at dksX7_rule_2 20 rfl rfl)
theorem dX7_rule_61 : decode cX7_rule 61 = .ok (.aload_n 0, 1) := dk_42 (dk_at dksX7_rule_2 21 rfl rfl)
theorem dX7_rule_62 : decode cX7_rule 62 = .ok (.iconst 0, 1) := dk_3 (dk_at dksX7_rule_2 22 rfl rfl)
theorem dX7_rule_63 : decode cX7_rule 63 = .ok (.invokevirtual 151, 3) := dk_182 0 151 (dk_at dksX7_rule_3 0 rfl rfl)
theorem dX7_rule_66 : decode cX7_rule 66 = .ok (.ireturn, 1) := dk_172 (dk_at dksX7_rule_3 3 rfl rfl)
theorem dX7_rule_67 : decode cX7_rule 67 = .ok (.aload_n 0, 1) := dk_42 (dk_at dksX7_rule_3 4 rfl rfl)
theorem dX7_rule_68 : decode cX7_rule 68 = .ok (.iconst 0, 1) := dk_3 (dk_at dksX7_rule_3 5 rfl rfl)
theorem dX7_rule_69 : decode cX7_rule 69 = .ok (.invokevirtual 161, 3) := dk_182 0 161 (dk_at dksX7_rule_3 6 rfl rfl)
theorem dX7_rule_72 : decode cX7_rule 72 = .ok (.ireturn, 1) := dk_172 (dk_at dksX7_rule_3 9 rfl rfl)
theorem dX7_rule_73 : decode cX7_rule 73 = .ok (.aload_n 0, 1) := dk_42 (dk_at dksX7_rule_3 10 rfl rfl)
theorem dX7_rule_74 : decode cX7_rule 74 = .ok (.iconst 0, 1) := dk_3 (dk_at dksX7_rule_3 11 rfl rfl)
theorem dX7_rule_75 : decode cX7_rule 75 = .ok (.invokevirtual 164, 3) := dk_182 0 164 (dk_at dksX7_rule_3 12 rfl rfl)
theorem dX7_rule_78 : decode cX7_rule 78 = .ok (.ireturn, 1) := dk_172 (dk_at dksX7_rule_3 15 rfl rfl)
theorem dX7_rule_79 : decode cX7_rule 79 = .ok (.iconst (-1), 1) := dk_2 (dk_at dksX7_rule_3 16 rfl rfl)
theorem dX7_rule_80 : decode cX7_rule 80 = .ok (.ireturn, 1) := dk_172 (dk_at dksX7_rule_3 17 rfl rfl)
abbrev cX7_placeOn : ByteArray := prog_11_method_22_code
def yX7_placeOn : MethodName := ⟨RX7, "placeOn", "(I)I"⟩
def dkwX7_placeOn_1 : List UInt8 := [96, 46, 42, 180, 0, 7, 27, 16, 40, 96, 46, 112, 172]
abbrev dktX7_placeOn_1 : List UInt8 := dkwX7_placeOn_1 ++ []
def dkwX7_placeOn_0 : List UInt8 := [42, 180, 0, 7, 27, 16, 40, 96, 46, 154, 0, 8, 16, 252, 167, 0, 22, 42, 180, 0, 7, 27, 16, 41]
abbrev dktX7_placeOn_0 : List UInt8 := dkwX7_placeOn_0 ++ dktX7_placeOn_1
theorem dksX7_placeOn_0 : cX7_placeOn.data.toList.drop 0 = dktX7_placeOn_0 := by decide +kernel
theorem dksX7_placeOn_1 : cX7_placeOn.data.toList.drop 24 = dktX7_placeOn_1 := dk_seg dksX7_placeOn_0 24 rfl rfl
theorem dX7_placeOn_0 : decode cX7_placeOn 0 = .ok (.aload_n 0, 1) := dk_42 (dk_at dksX7_placeOn_0 0 rfl rfl)
theorem dX7_placeOn_1 : decode cX7_placeOn 1 = .ok (.getfield 7, 3) := dk_180 0 7 (dk_at dksX7_placeOn_0 1 rfl rfl)
theorem dX7_placeOn_4 : decode cX7_placeOn 4 = .ok (.iload_n 1, 1) := dk_27 (dk_at dksX7_placeOn_0 4 rfl rfl)
theorem dX7_placeOn_5 : decode cX7_placeOn 5 = .ok (.bipush 40, 2) := dk_16 40 (dk_at dksX7_placeOn_0 5 rfl rfl)
theorem dX7_placeOn_7 : decode cX7_placeOn 7 = .ok (.iadd, 1) := dk_96 (dk_at dksX7_placeOn_0 7 rfl rfl)
theorem dX7_placeOn_8 : decode cX7_placeOn 8 = .ok (.iaload, 1) := dk_46 (dk_at dksX7_placeOn_0 8 rfl rfl)
theorem dX7_placeOn_9 : decode cX7_placeOn 9 = .ok (.ifCond .ne 8, 3) := dk_154 0 8 (dk_at dksX7_placeOn_0 9 rfl rfl)
theorem dX7_placeOn_12 : decode cX7_placeOn 12 = .ok (.bipush (-4), 2) := dk_16 252 (dk_at dksX7_placeOn_0 12 rfl rfl)
theorem dX7_placeOn_14 : decode cX7_placeOn 14 = .ok (.goto 22, 3) := dk_167 0 22 (dk_at dksX7_placeOn_0 14 rfl rfl)
theorem dX7_placeOn_17 : decode cX7_placeOn 17 = .ok (.aload_n 0, 1) := dk_42 (dk_at dksX7_placeOn_0 17 rfl rfl)
theorem dX7_placeOn_18 : decode cX7_placeOn 18 = .ok (.getfield 7, 3) := dk_180 0 7 (dk_at dksX7_placeOn_0 18 rfl rfl)
theorem dX7_placeOn_21 : decode cX7_placeOn 21 = .ok (.iload_n 1, 1) := dk_27 (dk_at dksX7_placeOn_0 21 rfl rfl)
theorem dX7_placeOn_22 : decode cX7_placeOn 22 = .ok (.bipush 41, 2) := dk_16 41 (dk_at dksX7_placeOn_0 22 rfl rfl)
theorem dX7_placeOn_24 : decode cX7_placeOn 24 = .ok (.iadd, 1) := dk_96 (dk_at dksX7_placeOn_1 0 rfl rfl)
theorem dX7_placeOn_25 : decode cX7_placeOn 25 = .ok (.iaload, 1) := dk_46 (dk_at dksX7_placeOn_1 1 rfl rfl)
theorem dX7_placeOn_26 : decode cX7_placeOn 26 = .ok (.aload_n 0, 1) := dk_42 (dk_at dksX7_placeOn_1 2 rfl rfl)
theorem dX7_placeOn_27 : decode cX7_placeOn 27 = .ok (.getfield 7, 3) := dk_180 0 7 (dk_at dksX7_placeOn_1 3 rfl rfl)
theorem dX7_placeOn_30 : decode cX7_placeOn 30 = .ok (.iload_n 1, 1) := dk_27 (dk_at dksX7_placeOn_1 6 rfl rfl)
theorem dX7_placeOn_31 : decode cX7_placeOn 31 = .ok (.bipush 40, 2) := dk_16 40 (dk_at dksX7_placeOn_1 7 rfl rfl)
theorem dX7_placeOn_33 : decode cX7_placeOn 33 = .ok (.iadd, 1) := dk_96 (dk_at dksX7_placeOn_1 9 rfl rfl)
theorem dX7_placeOn_34 : decode cX7_placeOn 34 = .ok (.iaload, 1) := dk_46 (dk_at dksX7_placeOn_1 10 rfl rfl)
theorem dX7_placeOn_35 : decode cX7_placeOn 35 = .ok (.irem, 1) := dk_112 (dk_at dksX7_placeOn_1 11 rfl rfl)
theorem dX7_placeOn_36 : decode cX7_placeOn 36 = .ok (.ireturn, 1) := dk_172 (dk_at dksX7_placeOn_1 12 rfl rfl)
abbrev cX7_losersOn : ByteArray := prog_11_method_26_code
def yX7_losersOn : MethodName := ⟨RX7, "losersOn", "(I)I"⟩
def dkwX7_losersOn_1 : List UInt8 := [158, 0, 9, 4, 29, 120, 167, 0, 4, 3, 128, 61, 132, 3, 1, 167, 255, 221, 28, 172]
abbrev dktX7_losersOn_1 : List UInt8 := dkwX7_losersOn_1 ++ []
def dkwX7_losersOn_0 : List UInt8 := [3, 61, 3, 62, 29, 42, 180, 0, 125, 162, 0, 33, 28, 42, 180, 0, 7, 27, 16, 10, 96, 29, 96, 46]
abbrev dktX7_losersOn_0 : List UInt8 := dkwX7_losersOn_0 ++ dktX7_losersOn_1
theorem dksX7_losersOn_0 : cX7_losersOn.data.toList.drop 0 = dktX7_losersOn_0 := by decide +kernel
theorem dksX7_losersOn_1 : cX7_losersOn.data.toList.drop 24 = dktX7_losersOn_1 := dk_seg dksX7_losersOn_0 24 rfl rfl
theorem dX7_losersOn_0 : decode cX7_losersOn 0 = .ok (.iconst 0, 1) := dk_3 (dk_at dksX7_losersOn_0 0 rfl rfl)
theorem dX7_losersOn_1 : decode cX7_losersOn 1 = .ok (.istore_n 2, 1) := dk_61 (dk_at dksX7_losersOn_0 1 rfl rfl)
theorem dX7_losersOn_2 : decode cX7_losersOn 2 = .ok (.iconst 0, 1) := dk_3 (dk_at dksX7_losersOn_0 2 rfl rfl)
theorem dX7_losersOn_3 : decode cX7_losersOn 3 = .ok (.istore_n 3, 1) := dk_62 (dk_at dksX7_losersOn_0 3 rfl rfl)
theorem dX7_losersOn_4 : decode cX7_losersOn 4 = .ok (.iload_n 3, 1) := dk_29 (dk_at dksX7_losersOn_0 4 rfl rfl)
theorem dX7_losersOn_5 : decode cX7_losersOn 5 = .ok (.aload_n 0, 1) := dk_42 (dk_at dksX7_losersOn_0 5 rfl rfl)
theorem dX7_losersOn_6 : decode cX7_losersOn 6 = .ok (.getfield 125, 3) := dk_180 0 125 (dk_at dksX7_losersOn_0 6 rfl rfl)
theorem dX7_losersOn_9 : decode cX7_losersOn 9 = .ok (.if_icmp .ge 33, 3) := dk_162 0 33 (dk_at dksX7_losersOn_0 9 rfl rfl)
theorem dX7_losersOn_12 : decode cX7_losersOn 12 = .ok (.iload_n 2, 1) := dk_28 (dk_at dksX7_losersOn_0 12 rfl rfl)
theorem dX7_losersOn_13 : decode cX7_losersOn 13 = .ok (.aload_n 0, 1) := dk_42 (dk_at dksX7_losersOn_0 13 rfl rfl)
theorem dX7_losersOn_14 : decode cX7_losersOn 14 = .ok (.getfield 7, 3) := dk_180 0 7 (dk_at dksX7_losersOn_0 14 rfl rfl)
theorem dX7_losersOn_17 : decode cX7_losersOn 17 = .ok (.iload_n 1, 1) := dk_27 (dk_at dksX7_losersOn_0 17 rfl rfl)
theorem dX7_losersOn_18 : decode cX7_losersOn 18 = .ok (.bipush 10, 2) := dk_16 10 (dk_at dksX7_losersOn_0 18 rfl rfl)
theorem dX7_losersOn_20 : decode cX7_losersOn 20 = .ok (.iadd, 1) := dk_96 (dk_at dksX7_losersOn_0 20 rfl rfl)
theorem dX7_losersOn_21 : decode cX7_losersOn 21 = .ok (.iload_n 3, 1) := dk_29 (dk_at dksX7_losersOn_0 21 rfl rfl)
theorem dX7_losersOn_22 : decode cX7_losersOn 22 = .ok (.iadd, 1) := dk_96 (dk_at dksX7_losersOn_0 22 rfl rfl)
theorem dX7_losersOn_23 : decode cX7_losersOn 23 = .ok (.iaload, 1) := dk_46 (dk_at dksX7_losersOn_0 23 rfl rfl)
theorem dX7_losersOn_24 : decode cX7_losersOn 24 = .ok (.ifCond .le 9, 3) := dk_158 0 9 (dk_at dksX7_losersOn_1 0 rfl rfl)
theorem dX7_losersOn_27 : decode cX7_losersOn 27 = .ok (.iconst 1, 1) := dk_4 (dk_at dksX7_losersOn_1 3 rfl rfl)
theorem dX7_losersOn_28 : decode cX7_losersOn 28 = .ok (.iload_n 3, 1) := dk_29 (dk_at dksX7_losersOn_1 4 rfl rfl)
theorem dX7_losersOn_29 : decode cX7_losersOn 29 = .ok (.ishl, 1) := dk_120 (dk_at dksX7_losersOn_1 5 rfl rfl)
theorem dX7_losersOn_30 : decode cX7_losersOn 30 = .ok (.goto 4, 3) := dk_167 0 4 (dk_at dksX7_losersOn_1 6 rfl rfl)
theorem dX7_losersOn_33 : decode cX7_losersOn 33 = .ok (.iconst 0, 1) := dk_3 (dk_at dksX7_losersOn_1 9 rfl rfl)
theorem dX7_losersOn_34 : decode cX7_losersOn 34 = .ok (.ior, 1) := dk_128 (dk_at dksX7_losersOn_1 10 rfl rfl)
theorem dX7_losersOn_35 : decode cX7_losersOn 35 = .ok (.istore_n 2, 1) := dk_61 (dk_at dksX7_losersOn_1 11 rfl rfl)
theorem dX7_losersOn_36 : decode cX7_losersOn 36 = .ok (.iinc 3 1, 3) := dk_132 3 1 (dk_at dksX7_losersOn_1 12 rfl rfl)
theorem dX7_losersOn_39 : decode cX7_losersOn 39 = .ok (.goto (-35), 3) := dk_167 255 221 (dk_at dksX7_losersOn_1 15 rfl rfl)
theorem dX7_losersOn_42 : decode cX7_losersOn 42 = .ok (.iload_n 2, 1) := dk_28 (dk_at dksX7_losersOn_1 18 rfl rfl)
theorem dX7_losersOn_43 : decode cX7_losersOn 43 = .ok (.ireturn, 1) := dk_172 (dk_at dksX7_losersOn_1 19 rfl rfl)
abbrev cX7_owedOn : ByteArray := prog_11_method_25_code
def yX7_owedOn : MethodName := ⟨RX7, "owedOn", "(I)I"⟩
def dkwX7_owedOn_1 : List UInt8 := [96, 61, 132, 3, 1, 167, 255, 231, 28, 172]
abbrev dktX7_owedOn_1 : List UInt8 := dkwX7_owedOn_1 ++ []
def dkwX7_owedOn_0 : List UInt8 := [3, 61, 3, 62, 29, 42, 180, 0, 125, 162, 0, 23, 28, 42, 180, 0, 7, 27, 16, 15, 96, 29, 96, 46]
abbrev dktX7_owedOn_0 : List UInt8 := dkwX7_owedOn_0 ++ dktX7_owedOn_1
theorem dksX7_owedOn_0 : cX7_owedOn.data.toList.drop 0 = dktX7_owedOn_0 := by decide +kernel
theorem dksX7_owedOn_1 : cX7_owedOn.data.toList.drop 24 = dktX7_owedOn_1 := dk_seg dksX7_owedOn_0 24 rfl rfl
theorem dX7_owedOn_0 : decode cX7_owedOn 0 = .ok (.iconst 0, 1) := dk_3 (dk_at dksX7_owedOn_0 0 rfl rfl)
theorem dX7_owedOn_1 : decode cX7_owedOn 1 = .ok (.istore_n 2, 1) := dk_61 (dk_at dksX7_owedOn_0 1 rfl rfl)
theorem dX7_owedOn_2 : decode cX7_owedOn 2 = .ok (.iconst 0, 1) := dk_3 (dk_at dksX7_owedOn_0 2 rfl rfl)
theorem dX7_owedOn_3 : decode cX7_owedOn 3 = .ok (.istore_n 3, 1) := dk_62 (dk_at dksX7_owedOn_0 3 rfl rfl)
theorem dX7_owedOn_4 : decode cX7_owedOn 4 = .ok (.iload_n 3, 1) := dk_29 (dk_at dksX7_owedOn_0 4 rfl rfl)
theorem dX7_owedOn_5 : decode cX7_owedOn 5 = .ok (.aload_n 0, 1) := dk_42 (dk_at dksX7_owedOn_0 5 rfl rfl)
theorem dX7_owedOn_6 : decode cX7_owedOn 6 = .ok (.getfield 125, 3) := dk_180 0 125 (dk_at dksX7_owedOn_0 6 rfl rfl)
theorem dX7_owedOn_9 : decode cX7_owedOn 9 = .ok (.if_icmp .ge 23, 3) := dk_162 0 23 (dk_at dksX7_owedOn_0 9 rfl rfl)
theorem dX7_owedOn_12 : decode cX7_owedOn 12 = .ok (.iload_n 2, 1) := dk_28 (dk_at dksX7_owedOn_0 12 rfl rfl)
theorem dX7_owedOn_13 : decode cX7_owedOn 13 = .ok (.aload_n 0, 1) := dk_42 (dk_at dksX7_owedOn_0 13 rfl rfl)
theorem dX7_owedOn_14 : decode cX7_owedOn 14 = .ok (.getfield 7, 3) := dk_180 0 7 (dk_at dksX7_owedOn_0 14 rfl rfl)
theorem dX7_owedOn_17 : decode cX7_owedOn 17 = .ok (.iload_n 1, 1) := dk_27 (dk_at dksX7_owedOn_0 17 rfl rfl)
theorem dX7_owedOn_18 : decode cX7_owedOn 18 = .ok (.bipush 15, 2) := dk_16 15 (dk_at dksX7_owedOn_0 18 rfl rfl)
theorem dX7_owedOn_20 : decode cX7_owedOn 20 = .ok (.iadd, 1) := dk_96 (dk_at dksX7_owedOn_0 20 rfl rfl)
theorem dX7_owedOn_21 : decode cX7_owedOn 21 = .ok (.iload_n 3, 1) := dk_29 (dk_at dksX7_owedOn_0 21 rfl rfl)
theorem dX7_owedOn_22 : decode cX7_owedOn 22 = .ok (.iadd, 1) := dk_96 (dk_at dksX7_owedOn_0 22 rfl rfl)
theorem dX7_owedOn_23 : decode cX7_owedOn 23 = .ok (.iaload, 1) := dk_46 (dk_at dksX7_owedOn_0 23 rfl rfl)
theorem dX7_owedOn_24 : decode cX7_owedOn 24 = .ok (.iadd, 1) := dk_96 (dk_at dksX7_owedOn_1 0 rfl rfl)
theorem dX7_owedOn_25 : decode cX7_owedOn 25 = .ok (.istore_n 2, 1) := dk_61 (dk_at dksX7_owedOn_1 1 rfl rfl)
theorem dX7_owedOn_26 : decode cX7_owedOn 26 = .ok (.iinc 3 1, 3) := dk_132 3 1 (dk_at dksX7_owedOn_1 2 rfl rfl)
theorem dX7_owedOn_29 : decode cX7_owedOn 29 = .ok (.goto (-25), 3) := dk_167 255 231 (dk_at dksX7_owedOn_1 5 rfl rfl)
theorem dX7_owedOn_32 : decode cX7_owedOn 32 = .ok (.iload_n 2, 1) := dk_28 (dk_at dksX7_owedOn_1 8 rfl rfl)
theorem dX7_owedOn_33 : decode cX7_owedOn 33 = .ok (.ireturn, 1) := dk_172 (dk_at dksX7_owedOn_1 9 rfl rfl)
abbrev cX7_town : ByteArray := prog_11_method_28_code
def yX7_town : MethodName := ⟨RX7, "town", "(II)I"⟩
def dkwX7_town_1 : List UInt8 := [162, 0, 16, 42, 180, 0, 7, 8, 28, 104, 27, 96, 46, 167, 0, 9, 42, 3, 27, 182, 0, 135, 172]
abbrev dktX7_town_1 : List UInt8 := dkwX7_town_1 ++ []
def dkwX7_town_0 : List UInt8 := [42, 27, 182, 0, 131, 153, 0, 15, 28, 133, 9, 20, 0, 114, 184, 0, 53, 154, 0, 5, 2, 172, 28, 7]
abbrev dktX7_town_0 : List UInt8 := dkwX7_town_0 ++ dktX7_town_1
theorem dksX7_town_0 : cX7_town.data.toList.drop 0 = dktX7_town_0 := by decide +kernel
theorem dksX7_town_1 : cX7_town.data.toList.drop 24 = dktX7_town_1 := dk_seg dksX7_town_0 24 rfl rfl
theorem dX7_town_0 : decode cX7_town 0 = .ok (.aload_n 0, 1) := dk_42 (dk_at dksX7_town_0 0 rfl rfl)
theorem dX7_town_1 : decode cX7_town 1 = .ok (.iload_n 1, 1) := dk_27 (dk_at dksX7_town_0 1 rfl rfl)
theorem dX7_town_2 : decode cX7_town 2 = .ok (.invokevirtual 131, 3) := dk_182 0 131 (dk_at dksX7_town_0 2 rfl rfl)
theorem dX7_town_5 : decode cX7_town 5 = .ok (.ifCond .eq 15, 3) := dk_153 0 15 (dk_at dksX7_town_0 5 rfl rfl)
theorem dX7_town_8 : decode cX7_town 8 = .ok (.iload_n 2, 1) := dk_28 (dk_at dksX7_town_0 8 rfl rfl)
theorem dX7_town_9 : decode cX7_town 9 = .ok (.i2l, 1) := dk_133 (dk_at dksX7_town_0 9 rfl rfl)
theorem dX7_town_10 : decode cX7_town 10 = .ok (.lconst 0, 1) := dk_9 (dk_at dksX7_town_0 10 rfl rfl)
theorem dX7_town_11 : decode cX7_town 11 = .ok (.ldc2_w 114, 3) := dk_20 0 114 (dk_at dksX7_town_0 11 rfl rfl)
theorem dX7_town_14 : decode cX7_town 14 = .ok (.invokestatic 53, 3) := dk_184 0 53 (dk_at dksX7_town_0 14 rfl rfl)
theorem dX7_town_17 : decode cX7_town 17 = .ok (.ifCond .ne 5, 3) := dk_154 0 5 (dk_at dksX7_town_0 17 rfl rfl)
theorem dX7_town_20 : decode cX7_town 20 = .ok (.iconst (-1), 1) := dk_2 (dk_at dksX7_town_0 20 rfl rfl)
theorem dX7_town_21 : decode cX7_town 21 = .ok (.ireturn, 1) := dk_172 (dk_at dksX7_town_0 21 rfl rfl)
theorem dX7_town_22 : decode cX7_town 22 = .ok (.iload_n 2, 1) := dk_28 (dk_at dksX7_town_0 22 rfl rfl)
theorem dX7_town_23 : decode cX7_town 23 = .ok (.iconst 4, 1) := dk_7 (dk_at dksX7_town_0 23 rfl rfl)
theorem dX7_town_24 : decode cX7_town 24 = .ok (.if_icmp .ge 16, 3) := dk_162 0 16 (dk_at dksX7_town_1 0 rfl rfl)
theorem dX7_town_27 : decode cX7_town 27 = .ok (.aload_n 0, 1) := dk_42 (dk_at dksX7_town_1 3 rfl rfl)
theorem dX7_town_28 : decode cX7_town 28 = .ok (.getfield 7, 3) := dk_180 0 7 (dk_at dksX7_town_1 4 rfl rfl)
theorem dX7_town_31 : decode cX7_town 31 = .ok (.iconst 5, 1) := dk_8 (dk_at dksX7_town_1 7 rfl rfl)
theorem dX7_town_32 : decode cX7_town 32 = .ok (.iload_n 2, 1) := dk_28 (dk_at dksX7_town_1 8 rfl rfl)
theorem dX7_town_33 : decode cX7_town 33 = .ok (.imul, 1) := dk_104 (dk_at dksX7_town_1 9 rfl rfl)
theorem dX7_town_34 : decode cX7_town 34 = .ok (.iload_n 1, 1) := dk_27 (dk_at dksX7_town_1 10 rfl rfl)
theorem dX7_town_35 : decode cX7_town 35 = .ok (.iadd, 1) := dk_96 (dk_at dksX7_town_1 11 rfl rfl)
theorem dX7_town_36 : decode cX7_town 36 = .ok (.iaload, 1) := dk_46 (dk_at dksX7_town_1 12 rfl rfl)
theorem dX7_town_37 : decode cX7_town 37 = .ok (.goto 9, 3) := dk_167 0 9 (dk_at dksX7_town_1 13 rfl rfl)
theorem dX7_town_40 : decode cX7_town 40 = .ok (.aload_n 0, 1) := dk_42 (dk_at dksX7_town_1 16 rfl rfl)
theorem dX7_town_41 : decode cX7_town 41 = .ok (.iconst 0, 1) := dk_3 (dk_at dksX7_town_1 17 rfl rfl)
theorem dX7_town_42 : decode cX7_town 42 = .ok (.iload_n 1, 1) := dk_27 (dk_at dksX7_town_1 18 rfl rfl)
theorem dX7_town_43 : decode cX7_town 43 = .ok (.invokevirtual 135, 3) := dk_182 0 135 (dk_at dksX7_town_1 19 rfl rfl)
theorem dX7_town_46 : decode cX7_town 46 = .ok (.ireturn, 1) := dk_172 (dk_at dksX7_town_1 22 rfl rfl)
abbrev cX7_isTown : ByteArray := prog_11_method_16_code
def yX7_isTown : MethodName := ⟨RX7, "isTown", "(I)Z"⟩
def dkwX7_isTown_0 : List UInt8 := [27, 133, 9, 42, 180, 0, 125, 4, 100, 133, 184, 0, 53, 172]
abbrev dktX7_isTown_0 : List UInt8 := dkwX7_isTown_0 ++ []
theorem dksX7_isTown_0 : cX7_isTown.data.toList.drop 0 = dktX7_isTown_0 := by decide +kernel
theorem dX7_isTown_0 : decode cX7_isTown 0 = .ok (.iload_n 1, 1) := dk_27 (dk_at dksX7_isTown_0 0 rfl rfl)
theorem dX7_isTown_1 : decode cX7_isTown 1 = .ok (.i2l, 1) := dk_133 (dk_at dksX7_isTown_0 1 rfl rfl)
theorem dX7_isTown_2 : decode cX7_isTown 2 = .ok (.lconst 0, 1) := dk_9 (dk_at dksX7_isTown_0 2 rfl rfl)
theorem dX7_isTown_3 : decode cX7_isTown 3 = .ok (.aload_n 0, 1) := dk_42 (dk_at dksX7_isTown_0 3 rfl rfl)
theorem dX7_isTown_4 : decode cX7_isTown 4 = .ok (.getfield 125, 3) := dk_180 0 125 (dk_at dksX7_isTown_0 4 rfl rfl)
theorem dX7_isTown_7 : decode cX7_isTown 7 = .ok (.iconst 1, 1) := dk_4 (dk_at dksX7_isTown_0 7 rfl rfl)
theorem dX7_isTown_8 : decode cX7_isTown 8 = .ok (.isub, 1) := dk_100 (dk_at dksX7_isTown_0 8 rfl rfl)
theorem dX7_isTown_9 : decode cX7_isTown 9 = .ok (.i2l, 1) := dk_133 (dk_at dksX7_isTown_0 9 rfl rfl)
theorem dX7_isTown_10 : decode cX7_isTown 10 = .ok (.invokestatic 53, 3) := dk_184 0 53 (dk_at dksX7_isTown_0 10 rfl rfl)
theorem dX7_isTown_13 : decode cX7_isTown 13 = .ok (.ireturn, 1) := dk_172 (dk_at dksX7_isTown_0 13 rfl rfl)
abbrev cX7_playsOn : ByteArray := prog_11_method_19_code
def yX7_playsOn : MethodName := ⟨RX7, "playsOn", "(II)I"⟩
def dkwX7_playsOn_3 : List UInt8 := [160, 0, 8, 21, 5, 167, 0, 17, 21, 5, 5, 164, 0, 10, 21, 5, 5, 100, 167, 0, 4, 3, 172]
abbrev dktX7_playsOn_3 : List UInt8 := dkwX7_playsOn_3 ++ []
def dkwX7_playsOn_2 : List UInt8 := [29, 154, 0, 8, 21, 4, 167, 0, 39, 29, 4, 160, 0, 10, 21, 4, 6, 96, 167, 0, 27, 29, 5]
abbrev dktX7_playsOn_2 : List UInt8 := dkwX7_playsOn_2 ++ dktX7_playsOn_3
def dkwX7_playsOn_1 : List UInt8 := [180, 0, 7, 27, 16, 10, 96, 28, 96, 46, 154, 0, 10, 21, 4, 5, 108, 167, 0, 5, 21, 4, 54, 5]
abbrev dktX7_playsOn_1 : List UInt8 := dkwX7_playsOn_1 ++ dktX7_playsOn_2
def dkwX7_playsOn_0 : List UInt8 := [42, 180, 0, 7, 27, 28, 96, 46, 62, 42, 180, 0, 7, 27, 8, 96, 28, 96, 46, 54, 4, 42]
abbrev dktX7_playsOn_0 : List UInt8 := dkwX7_playsOn_0 ++ dktX7_playsOn_1
theorem dksX7_playsOn_0 : cX7_playsOn.data.toList.drop 0 = dktX7_playsOn_0 := by decide +kernel
theorem dksX7_playsOn_1 : cX7_playsOn.data.toList.drop 22 = dktX7_playsOn_1 := dk_seg dksX7_playsOn_0 22 rfl rfl
theorem dksX7_playsOn_2 : cX7_playsOn.data.toList.drop 46 = dktX7_playsOn_2 := dk_seg dksX7_playsOn_1 24 rfl rfl
theorem dksX7_playsOn_3 : cX7_playsOn.data.toList.drop 69 = dktX7_playsOn_3 := dk_seg dksX7_playsOn_2 23 rfl rfl
theorem dX7_playsOn_0 : decode cX7_playsOn 0 = .ok (.aload_n 0, 1) := dk_42 (dk_at dksX7_playsOn_0 0 rfl rfl)
theorem dX7_playsOn_1 : decode cX7_playsOn 1 = .ok (.getfield 7, 3) := dk_180 0 7 (dk_at dksX7_playsOn_0 1 rfl rfl)
theorem dX7_playsOn_4 : decode cX7_playsOn 4 = .ok (.iload_n 1, 1) := dk_27 (dk_at dksX7_playsOn_0 4 rfl rfl)
theorem dX7_playsOn_5 : decode cX7_playsOn 5 = .ok (.iload_n 2, 1) := dk_28 (dk_at dksX7_playsOn_0 5 rfl rfl)
theorem dX7_playsOn_6 : decode cX7_playsOn 6 = .ok (.iadd, 1) := dk_96 (dk_at dksX7_playsOn_0 6 rfl rfl)
theorem dX7_playsOn_7 : decode cX7_playsOn 7 = .ok (.iaload, 1) := dk_46 (dk_at dksX7_playsOn_0 7 rfl rfl)
theorem dX7_playsOn_8 : decode cX7_playsOn 8 = .ok (.istore_n 3, 1) := dk_62 (dk_at dksX7_playsOn_0 8 rfl rfl)
theorem dX7_playsOn_9 : decode cX7_playsOn 9 = .ok (.aload_n 0, 1) := dk_42 (dk_at dksX7_playsOn_0 9 rfl rfl)
theorem dX7_playsOn_10 : decode cX7_playsOn 10 = .ok (.getfield 7, 3) := dk_180 0 7 (dk_at dksX7_playsOn_0 10 rfl rfl)
theorem dX7_playsOn_13 : decode cX7_playsOn 13 = .ok (.iload_n 1, 1) := dk_27 (dk_at dksX7_playsOn_0 13 rfl rfl)
theorem dX7_playsOn_14 : decode cX7_playsOn 14 = .ok (.iconst 5, 1) := dk_8 (dk_at dksX7_playsOn_0 14 rfl rfl)
theorem dX7_playsOn_15 : decode cX7_playsOn 15 = .ok (.iadd, 1) := dk_96 (dk_at dksX7_playsOn_0 15 rfl rfl)
theorem dX7_playsOn_16 : decode cX7_playsOn 16 = .ok (.iload_n 2, 1) := dk_28 (dk_at dksX7_playsOn_0 16 rfl rfl)
theorem dX7_playsOn_17 : decode cX7_playsOn 17 = .ok (.iadd, 1) := dk_96 (dk_at dksX7_playsOn_0 17 rfl rfl)
theorem dX7_playsOn_18 : decode cX7_playsOn 18 = .ok (.iaload, 1) := dk_46 (dk_at dksX7_playsOn_0 18 rfl rfl)
theorem dX7_playsOn_19 : decode cX7_playsOn 19 = .ok (.istore 4, 2) := dk_54 4 (dk_at dksX7_playsOn_0 19 rfl rfl)
theorem dX7_playsOn_21 : decode cX7_playsOn 21 = .ok (.aload_n 0, 1) := dk_42 (dk_at dksX7_playsOn_0 21 rfl rfl)
theorem dX7_playsOn_22 : decode cX7_playsOn 22 = .ok (.getfield 7, 3) := dk_180 0 7 (dk_at dksX7_playsOn_1 0 rfl rfl)
theorem dX7_playsOn_25 : decode cX7_playsOn 25 = .ok (.iload_n 1, 1) := dk_27 (dk_at dksX7_playsOn_1 3 rfl rfl)
theorem dX7_playsOn_26 : decode cX7_playsOn 26 = .ok (.bipush 10, 2) := dk_16 10 (dk_at dksX7_playsOn_1 4 rfl rfl)
theorem dX7_playsOn_28 : decode cX7_playsOn 28 = .ok (.iadd, 1) := dk_96 (dk_at dksX7_playsOn_1 6 rfl rfl)
theorem dX7_playsOn_29 : decode cX7_playsOn 29 = .ok (.iload_n 2, 1) := dk_28 (dk_at dksX7_playsOn_1 7 rfl rfl)
theorem dX7_playsOn_30 : decode cX7_playsOn 30 = .ok (.iadd, 1) := dk_96 (dk_at dksX7_playsOn_1 8 rfl rfl)
theorem dX7_playsOn_31 : decode cX7_playsOn 31 = .ok (.iaload, 1) := dk_46 (dk_at dksX7_playsOn_1 9 rfl rfl)
theorem dX7_playsOn_32 : decode cX7_playsOn 32 = .ok (.ifCond .ne 10, 3) := dk_154 0 10 (dk_at dksX7_playsOn_1 10 rfl rfl)
theorem dX7_playsOn_35 : decode cX7_playsOn 35 = .ok (.iload 4, 2) := dk_21 4 (dk_at dksX7_playsOn_1 13 rfl rfl)
theorem dX7_playsOn_37 : decode cX7_playsOn 37 = .ok (.iconst 2, 1) := dk_5 (dk_at dksX7_playsOn_1 15 rfl rfl)
theorem dX7_playsOn_38 : decode cX7_playsOn 38 = .ok (.idiv, 1) := dk_108 (dk_at dksX7_playsOn_1 16 rfl rfl)
theorem dX7_playsOn_39 : decode cX7_playsOn 39 = .ok (.goto 5, 3) := dk_167 0 5 (dk_at dksX7_playsOn_1 17 rfl rfl)
theorem dX7_playsOn_42 : decode cX7_playsOn 42 = .ok (.iload 4, 2) := dk_21 4 (dk_at dksX7_playsOn_1 20 rfl rfl)
theorem dX7_playsOn_44 : decode cX7_playsOn 44 = .ok (.istore 5, 2) := dk_54 5 (dk_at dksX7_playsOn_1 22 rfl rfl)
theorem dX7_playsOn_46 : decode cX7_playsOn 46 = .ok (.iload_n 3, 1) := dk_29 (dk_at dksX7_playsOn_2 0 rfl rfl)
theorem dX7_playsOn_47 : decode cX7_playsOn 47 = .ok (.ifCond .ne 8, 3) := dk_154 0 8 (dk_at dksX7_playsOn_2 1 rfl rfl)
theorem dX7_playsOn_50 : decode cX7_playsOn 50 = .ok (.iload 4, 2) := dk_21 4 (dk_at dksX7_playsOn_2 4 rfl rfl)
theorem dX7_playsOn_52 : decode cX7_playsOn 52 = .ok (.goto 39, 3) := dk_167 0 39 (dk_at dksX7_playsOn_2 6 rfl rfl)
theorem dX7_playsOn_55 : decode cX7_playsOn 55 = .ok (.iload_n 3, 1) := dk_29 (dk_at dksX7_playsOn_2 9 rfl rfl)
theorem dX7_playsOn_56 : decode cX7_playsOn 56 = .ok (.iconst 1, 1) := dk_4 (dk_at dksX7_playsOn_2 10 rfl rfl)
theorem dX7_playsOn_57 : decode cX7_playsOn 57 = .ok (.if_icmp .ne 10, 3) := dk_160 0 10 (dk_at dksX7_playsOn_2 11 rfl rfl)
theorem dX7_playsOn_60 : decode cX7_playsOn 60 = .ok (.iload 4, 2) := dk_21 4 (dk_at dksX7_playsOn_2 14 rfl rfl)
theorem dX7_playsOn_62 : decode cX7_playsOn 62 = .ok (.iconst 3, 1) := dk_6 (dk_at dksX7_playsOn_2 16 rfl rfl)
theorem dX7_playsOn_63 : decode cX7_playsOn 63 = .ok (.iadd, 1) := dk_96 (dk_at dksX7_playsOn_2 17 rfl rfl)
theorem dX7_playsOn_64 : decode cX7_playsOn 64 = .ok (.goto 27, 3) := dk_167 0 27 (dk_at dksX7_playsOn_2 18 rfl rfl)
theorem dX7_playsOn_67 : decode cX7_playsOn 67 = .ok (.iload_n 3, 1) := dk_29 (dk_at dksX7_playsOn_2 21 rfl rfl)
theorem dX7_playsOn_68 : decode cX7_playsOn 68 = .ok (.iconst 2, 1) := dk_5 (dk_at dksX7_playsOn_2 22 rfl rfl)
theorem dX7_playsOn_69 : decode cX7_playsOn 69 = .ok (.if_icmp .ne 8, 3) := dk_160 0 8 (dk_at dksX7_playsOn_3 0 rfl rfl)
theorem dX7_playsOn_72 : decode cX7_playsOn 72 = .ok (.iload 5, 2) := dk_21 5 (dk_at dksX7_playsOn_3 3 rfl rfl)
theorem dX7_playsOn_74 : decode cX7_playsOn 74 = .ok (.goto 17, 3) := dk_167 0 17 (dk_at dksX7_playsOn_3 5 rfl rfl)
theorem dX7_playsOn_77 : decode cX7_playsOn 77 = .ok (.iload 5, 2) := dk_21 5 (dk_at dksX7_playsOn_3 8 rfl rfl)
theorem dX7_playsOn_79 : decode cX7_playsOn 79 = .ok (.iconst 2, 1) := dk_5 (dk_at dksX7_playsOn_3 10 rfl rfl)
theorem dX7_playsOn_80 : decode cX7_playsOn 80 = .ok (.if_icmp .le 10, 3) := dk_164 0 10 (dk_at dksX7_playsOn_3 11 rfl rfl)
theorem dX7_playsOn_83 : decode cX7_playsOn 83 = .ok (.iload 5, 2) := dk_21 5 (dk_at dksX7_playsOn_3 14 rfl rfl)
theorem dX7_playsOn_85 : decode cX7_playsOn 85 = .ok (.iconst 2, 1) := dk_5 (dk_at dksX7_playsOn_3 16 rfl rfl)
theorem dX7_playsOn_86 : decode cX7_playsOn 86 = .ok (.isub, 1) := dk_100 (dk_at dksX7_playsOn_3 17 rfl rfl)
theorem dX7_playsOn_87 : decode cX7_playsOn 87 = .ok (.goto 4, 3) := dk_167 0 4 (dk_at dksX7_playsOn_3 18 rfl rfl)
theorem dX7_playsOn_90 : decode cX7_playsOn 90 = .ok (.iconst 0, 1) := dk_3 (dk_at dksX7_playsOn_3 21 rfl rfl)
theorem dX7_playsOn_91 : decode cX7_playsOn 91 = .ok (.ireturn, 1) := dk_172 (dk_at dksX7_playsOn_3 22 rfl rfl)
abbrev cX7_fixture : ByteArray := prog_11_method_29_code
def yX7_fixture : MethodName := ⟨RX7, "fixture", "(II)I"⟩
def dkwX7_fixture_1 : List UInt8 := [16, 10, 28, 104, 96, 27, 96, 46, 167, 0, 4, 2, 172]
abbrev dktX7_fixture_1 : List UInt8 := dkwX7_fixture_1 ++ []
def dkwX7_fixture_0 : List UInt8 := [42, 27, 182, 0, 167, 153, 0, 30, 28, 133, 9, 10, 184, 0, 53, 153, 0, 20, 42, 180, 0, 7, 16, 20]
abbrev dktX7_fixture_0 : List UInt8 := dkwX7_fixture_0 ++ dktX7_fixture_1
theorem dksX7_fixture_0 : cX7_fixture.data.toList.drop 0 = dktX7_fixture_0 := by decide +kernel
theorem dksX7_fixture_1 : cX7_fixture.data.toList.drop 24 = dktX7_fixture_1 := dk_seg dksX7_fixture_0 24 rfl rfl
theorem dX7_fixture_0 : decode cX7_fixture 0 = .ok (.aload_n 0, 1) := dk_42 (dk_at dksX7_fixture_0 0 rfl rfl)
theorem dX7_fixture_1 : decode cX7_fixture 1 = .ok (.iload_n 1, 1) := dk_27 (dk_at dksX7_fixture_0 1 rfl rfl)
theorem dX7_fixture_2 : decode cX7_fixture 2 = .ok (.invokevirtual 167, 3) := dk_182 0 167 (dk_at dksX7_fixture_0 2 rfl rfl)
theorem dX7_fixture_5 : decode cX7_fixture 5 = .ok (.ifCond .eq 30, 3) := dk_153 0 30 (dk_at dksX7_fixture_0 5 rfl rfl)
theorem dX7_fixture_8 : decode cX7_fixture 8 = .ok (.iload_n 2, 1) := dk_28 (dk_at dksX7_fixture_0 8 rfl rfl)
theorem dX7_fixture_9 : decode cX7_fixture 9 = .ok (.i2l, 1) := dk_133 (dk_at dksX7_fixture_0 9 rfl rfl)
theorem dX7_fixture_10 : decode cX7_fixture 10 = .ok (.lconst 0, 1) := dk_9 (dk_at dksX7_fixture_0 10 rfl rfl)
theorem dX7_fixture_11 : decode cX7_fixture 11 = .ok (.lconst 1, 1) := dk_10 (dk_at dksX7_fixture_0 11 rfl rfl)
theorem dX7_fixture_12 : decode cX7_fixture 12 = .ok (.invokestatic 53, 3) := dk_184 0 53 (dk_at dksX7_fixture_0 12 rfl rfl)
theorem dX7_fixture_15 : decode cX7_fixture 15 = .ok (.ifCond .eq 20, 3) := dk_153 0 20 (dk_at dksX7_fixture_0 15 rfl rfl)
theorem dX7_fixture_18 : decode cX7_fixture 18 = .ok (.aload_n 0, 1) := dk_42 (dk_at dksX7_fixture_0 18 rfl rfl)
theorem dX7_fixture_19 : decode cX7_fixture 19 = .ok (.getfield 7, 3) := dk_180 0 7 (dk_at dksX7_fixture_0 19 rfl rfl)
theorem dX7_fixture_22 : decode cX7_fixture 22 = .ok (.bipush 20, 2) := dk_16 20 (dk_at dksX7_fixture_0 22 rfl rfl)
theorem dX7_fixture_24 : decode cX7_fixture 24 = .ok (.bipush 10, 2) := dk_16 10 (dk_at dksX7_fixture_1 0 rfl rfl)
theorem dX7_fixture_26 : decode cX7_fixture 26 = .ok (.iload_n 2, 1) := dk_28 (dk_at dksX7_fixture_1 2 rfl rfl)
theorem dX7_fixture_27 : decode cX7_fixture 27 = .ok (.imul, 1) := dk_104 (dk_at dksX7_fixture_1 3 rfl rfl)
theorem dX7_fixture_28 : decode cX7_fixture 28 = .ok (.iadd, 1) := dk_96 (dk_at dksX7_fixture_1 4 rfl rfl)
theorem dX7_fixture_29 : decode cX7_fixture 29 = .ok (.iload_n 1, 1) := dk_27 (dk_at dksX7_fixture_1 5 rfl rfl)
theorem dX7_fixture_30 : decode cX7_fixture 30 = .ok (.iadd, 1) := dk_96 (dk_at dksX7_fixture_1 6 rfl rfl)
theorem dX7_fixture_31 : decode cX7_fixture 31 = .ok (.iaload, 1) := dk_46 (dk_at dksX7_fixture_1 7 rfl rfl)
theorem dX7_fixture_32 : decode cX7_fixture 32 = .ok (.goto 4, 3) := dk_167 0 4 (dk_at dksX7_fixture_1 8 rfl rfl)
theorem dX7_fixture_35 : decode cX7_fixture 35 = .ok (.iconst (-1), 1) := dk_2 (dk_at dksX7_fixture_1 11 rfl rfl)
theorem dX7_fixture_36 : decode cX7_fixture 36 = .ok (.ireturn, 1) := dk_172 (dk_at dksX7_fixture_1 12 rfl rfl)
abbrev cX7_isFixture : ByteArray := prog_11_method_18_code
def yX7_isFixture : MethodName := ⟨RX7, "isFixture", "(I)Z"⟩
def dkwX7_isFixture_0 : List UInt8 := [27, 133, 9, 42, 180, 0, 7, 16, 40, 46, 4, 100, 133, 184, 0, 53, 172]
abbrev dktX7_isFixture_0 : List UInt8 := dkwX7_isFixture_0 ++ []
theorem dksX7_isFixture_0 : cX7_isFixture.data.toList.drop 0 = dktX7_isFixture_0 := by decide +kernel
theorem dX7_isFixture_0 : decode cX7_isFixture 0 = .ok (.iload_n 1, 1) := dk_27 (dk_at dksX7_isFixture_0 0 rfl rfl)
theorem dX7_isFixture_1 : decode cX7_isFixture 1 = .ok (.i2l, 1) := dk_133 (dk_at dksX7_isFixture_0 1 rfl rfl)
theorem dX7_isFixture_2 : decode cX7_isFixture 2 = .ok (.lconst 0, 1) := dk_9 (dk_at dksX7_isFixture_0 2 rfl rfl)
theorem dX7_isFixture_3 : decode cX7_isFixture 3 = .ok (.aload_n 0, 1) := dk_42 (dk_at dksX7_isFixture_0 3 rfl rfl)
theorem dX7_isFixture_4 : decode cX7_isFixture 4 = .ok (.getfield 7, 3) := dk_180 0 7 (dk_at dksX7_isFixture_0 4 rfl rfl)
theorem dX7_isFixture_7 : decode cX7_isFixture 7 = .ok (.bipush 40, 2) := dk_16 40 (dk_at dksX7_isFixture_0 7 rfl rfl)
theorem dX7_isFixture_9 : decode cX7_isFixture 9 = .ok (.iaload, 1) := dk_46 (dk_at dksX7_isFixture_0 9 rfl rfl)
theorem dX7_isFixture_10 : decode cX7_isFixture 10 = .ok (.iconst 1, 1) := dk_4 (dk_at dksX7_isFixture_0 10 rfl rfl)
theorem dX7_isFixture_11 : decode cX7_isFixture 11 = .ok (.isub, 1) := dk_100 (dk_at dksX7_isFixture_0 11 rfl rfl)
theorem dX7_isFixture_12 : decode cX7_isFixture 12 = .ok (.i2l, 1) := dk_133 (dk_at dksX7_isFixture_0 12 rfl rfl)
theorem dX7_isFixture_13 : decode cX7_isFixture 13 = .ok (.invokestatic 53, 3) := dk_184 0 53 (dk_at dksX7_isFixture_0 13 rfl rfl)
theorem dX7_isFixture_16 : decode cX7_isFixture 16 = .ok (.ireturn, 1) := dk_172 (dk_at dksX7_isFixture_0 16 rfl rfl)
abbrev cX7_game : ByteArray := prog_11_method_30_code
def yX7_game : MethodName := ⟨RX7, "game", "(II)I"⟩
def dkwX7_game_0 : List UInt8 := [42, 27, 28, 182, 0, 170, 153, 0, 13, 42, 3, 27, 28, 182, 0, 138, 167, 0, 4, 2, 172]
abbrev dktX7_game_0 : List UInt8 := dkwX7_game_0 ++ []
theorem dksX7_game_0 : cX7_game.data.toList.drop 0 = dktX7_game_0 := by decide +kernel
theorem dX7_game_0 : decode cX7_game 0 = .ok (.aload_n 0, 1) := dk_42 (dk_at dksX7_game_0 0 rfl rfl)
theorem dX7_game_1 : decode cX7_game 1 = .ok (.iload_n 1, 1) := dk_27 (dk_at dksX7_game_0 1 rfl rfl)
theorem dX7_game_2 : decode cX7_game 2 = .ok (.iload_n 2, 1) := dk_28 (dk_at dksX7_game_0 2 rfl rfl)
theorem dX7_game_3 : decode cX7_game 3 = .ok (.invokevirtual 170, 3) := dk_182 0 170 (dk_at dksX7_game_0 3 rfl rfl)
theorem dX7_game_6 : decode cX7_game 6 = .ok (.ifCond .eq 13, 3) := dk_153 0 13 (dk_at dksX7_game_0 6 rfl rfl)
theorem dX7_game_9 : decode cX7_game 9 = .ok (.aload_n 0, 1) := dk_42 (dk_at dksX7_game_0 9 rfl rfl)
theorem dX7_game_10 : decode cX7_game 10 = .ok (.iconst 0, 1) := dk_3 (dk_at dksX7_game_0 10 rfl rfl)
theorem dX7_game_11 : decode cX7_game 11 = .ok (.iload_n 1, 1) := dk_27 (dk_at dksX7_game_0 11 rfl rfl)
theorem dX7_game_12 : decode cX7_game 12 = .ok (.iload_n 2, 1) := dk_28 (dk_at dksX7_game_0 12 rfl rfl)
theorem dX7_game_13 : decode cX7_game 13 = .ok (.invokevirtual 138, 3) := dk_182 0 138 (dk_at dksX7_game_0 13 rfl rfl)
theorem dX7_game_16 : decode cX7_game 16 = .ok (.goto 4, 3) := dk_167 0 4 (dk_at dksX7_game_0 16 rfl rfl)
theorem dX7_game_19 : decode cX7_game 19 = .ok (.iconst (-1), 1) := dk_2 (dk_at dksX7_game_0 19 rfl rfl)
theorem dX7_game_20 : decode cX7_game 20 = .ok (.ireturn, 1) := dk_172 (dk_at dksX7_game_0 20 rfl rfl)
abbrev cX7_isPair : ByteArray := prog_11_method_17_code
def yX7_isPair : MethodName := ⟨RX7, "isPair", "(II)Z"⟩
def dkwX7_isPair_1 : List UInt8 := [167, 0, 4, 3, 172]
abbrev dktX7_isPair_1 : List UInt8 := dkwX7_isPair_1 ++ []
def dkwX7_isPair_0 : List UInt8 := [42, 27, 182, 0, 131, 153, 0, 20, 42, 28, 182, 0, 131, 153, 0, 12, 27, 28, 159, 0, 7, 4]
abbrev dktX7_isPair_0 : List UInt8 := dkwX7_isPair_0 ++ dktX7_isPair_1
theorem dksX7_isPair_0 : cX7_isPair.data.toList.drop 0 = dktX7_isPair_0 := by decide +kernel
theorem dksX7_isPair_1 : cX7_isPair.data.toList.drop 22 = dktX7_isPair_1 := dk_seg dksX7_isPair_0 22 rfl rfl
theorem dX7_isPair_0 : decode cX7_isPair 0 = .ok (.aload_n 0, 1) := dk_42 (dk_at dksX7_isPair_0 0 rfl rfl)
theorem dX7_isPair_1 : decode cX7_isPair 1 = .ok (.iload_n 1, 1) := dk_27 (dk_at dksX7_isPair_0 1 rfl rfl)
theorem dX7_isPair_2 : decode cX7_isPair 2 = .ok (.invokevirtual 131, 3) := dk_182 0 131 (dk_at dksX7_isPair_0 2 rfl rfl)
theorem dX7_isPair_5 : decode cX7_isPair 5 = .ok (.ifCond .eq 20, 3) := dk_153 0 20 (dk_at dksX7_isPair_0 5 rfl rfl)
theorem dX7_isPair_8 : decode cX7_isPair 8 = .ok (.aload_n 0, 1) := dk_42 (dk_at dksX7_isPair_0 8 rfl rfl)
theorem dX7_isPair_9 : decode cX7_isPair 9 = .ok (.iload_n 2, 1) := dk_28 (dk_at dksX7_isPair_0 9 rfl rfl)
theorem dX7_isPair_10 : decode cX7_isPair 10 = .ok (.invokevirtual 131, 3) := dk_182 0 131 (dk_at dksX7_isPair_0 10 rfl rfl)
theorem dX7_isPair_13 : decode cX7_isPair 13 = .ok (.ifCond .eq 12, 3) := dk_153 0 12 (dk_at dksX7_isPair_0 13 rfl rfl)
theorem dX7_isPair_16 : decode cX7_isPair 16 = .ok (.iload_n 1, 1) := dk_27 (dk_at dksX7_isPair_0 16 rfl rfl)
theorem dX7_isPair_17 : decode cX7_isPair 17 = .ok (.iload_n 2, 1) := dk_28 (dk_at dksX7_isPair_0 17 rfl rfl)
theorem dX7_isPair_18 : decode cX7_isPair 18 = .ok (.if_icmp .eq 7, 3) := dk_159 0 7 (dk_at dksX7_isPair_0 18 rfl rfl)
theorem dX7_isPair_21 : decode cX7_isPair 21 = .ok (.iconst 1, 1) := dk_4 (dk_at dksX7_isPair_0 21 rfl rfl)
theorem dX7_isPair_22 : decode cX7_isPair 22 = .ok (.goto 4, 3) := dk_167 0 4 (dk_at dksX7_isPair_1 0 rfl rfl)
theorem dX7_isPair_25 : decode cX7_isPair 25 = .ok (.iconst 0, 1) := dk_3 (dk_at dksX7_isPair_1 3 rfl rfl)
theorem dX7_isPair_26 : decode cX7_isPair 26 = .ok (.ireturn, 1) := dk_172 (dk_at dksX7_isPair_1 4 rfl rfl)
abbrev cX7_gameOn : ByteArray := prog_11_method_20_code
def yX7_gameOn : MethodName := ⟨RX7, "gameOn", "(III)I"⟩
def dkwX7_gameOn_1 : List UInt8 := [167, 0, 16, 21, 5, 21, 4, 162, 0, 7, 29, 167, 0, 5, 16, 252, 172]
abbrev dktX7_gameOn_1 : List UInt8 := dkwX7_gameOn_1 ++ []
def dkwX7_gameOn_0 : List UInt8 := [42, 27, 28, 182, 0, 135, 54, 4, 42, 27, 29, 182, 0, 135, 54, 5, 21, 4, 21, 5, 162, 0, 7, 28]
abbrev dktX7_gameOn_0 : List UInt8 := dkwX7_gameOn_0 ++ dktX7_gameOn_1
theorem dksX7_gameOn_0 : cX7_gameOn.data.toList.drop 0 = dktX7_gameOn_0 := by decide +kernel
theorem dksX7_gameOn_1 : cX7_gameOn.data.toList.drop 24 = dktX7_gameOn_1 := dk_seg dksX7_gameOn_0 24 rfl rfl
theorem dX7_gameOn_0 : decode cX7_gameOn 0 = .ok (.aload_n 0, 1) := dk_42 (dk_at dksX7_gameOn_0 0 rfl rfl)
theorem dX7_gameOn_1 : decode cX7_gameOn 1 = .ok (.iload_n 1, 1) := dk_27 (dk_at dksX7_gameOn_0 1 rfl rfl)
theorem dX7_gameOn_2 : decode cX7_gameOn 2 = .ok (.iload_n 2, 1) := dk_28 (dk_at dksX7_gameOn_0 2 rfl rfl)
theorem dX7_gameOn_3 : decode cX7_gameOn 3 = .ok (.invokevirtual 135, 3) := dk_182 0 135 (dk_at dksX7_gameOn_0 3 rfl rfl)
theorem dX7_gameOn_6 : decode cX7_gameOn 6 = .ok (.istore 4, 2) := dk_54 4 (dk_at dksX7_gameOn_0 6 rfl rfl)
theorem dX7_gameOn_8 : decode cX7_gameOn 8 = .ok (.aload_n 0, 1) := dk_42 (dk_at dksX7_gameOn_0 8 rfl rfl)
theorem dX7_gameOn_9 : decode cX7_gameOn 9 = .ok (.iload_n 1, 1) := dk_27 (dk_at dksX7_gameOn_0 9 rfl rfl)
theorem dX7_gameOn_10 : decode cX7_gameOn 10 = .ok (.iload_n 3, 1) := dk_29 (dk_at dksX7_gameOn_0 10 rfl rfl)
theorem dX7_gameOn_11 : decode cX7_gameOn 11 = .ok (.invokevirtual 135, 3) := dk_182 0 135 (dk_at dksX7_gameOn_0 11 rfl rfl)
theorem dX7_gameOn_14 : decode cX7_gameOn 14 = .ok (.istore 5, 2) := dk_54 5 (dk_at dksX7_gameOn_0 14 rfl rfl)
theorem dX7_gameOn_16 : decode cX7_gameOn 16 = .ok (.iload 4, 2) := dk_21 4 (dk_at dksX7_gameOn_0 16 rfl rfl)
theorem dX7_gameOn_18 : decode cX7_gameOn 18 = .ok (.iload 5, 2) := dk_21 5 (dk_at dksX7_gameOn_0 18 rfl rfl)
theorem dX7_gameOn_20 : decode cX7_gameOn 20 = .ok (.if_icmp .ge 7, 3) := dk_162 0 7 (dk_at dksX7_gameOn_0 20 rfl rfl)
theorem dX7_gameOn_23 : decode cX7_gameOn 23 = .ok (.iload_n 2, 1) := dk_28 (dk_at dksX7_gameOn_0 23 rfl rfl)
theorem dX7_gameOn_24 : decode cX7_gameOn 24 = .ok (.goto 16, 3) := dk_167 0 16 (dk_at dksX7_gameOn_1 0 rfl rfl)
theorem dX7_gameOn_27 : decode cX7_gameOn 27 = .ok (.iload 5, 2) := dk_21 5 (dk_at dksX7_gameOn_1 3 rfl rfl)
theorem dX7_gameOn_29 : decode cX7_gameOn 29 = .ok (.iload 4, 2) := dk_21 4 (dk_at dksX7_gameOn_1 5 rfl rfl)
theorem dX7_gameOn_31 : decode cX7_gameOn 31 = .ok (.if_icmp .ge 7, 3) := dk_162 0 7 (dk_at dksX7_gameOn_1 7 rfl rfl)
theorem dX7_gameOn_34 : decode cX7_gameOn 34 = .ok (.iload_n 3, 1) := dk_29 (dk_at dksX7_gameOn_1 10 rfl rfl)
theorem dX7_gameOn_35 : decode cX7_gameOn 35 = .ok (.goto 5, 3) := dk_167 0 5 (dk_at dksX7_gameOn_1 11 rfl rfl)
theorem dX7_gameOn_38 : decode cX7_gameOn 38 = .ok (.bipush (-4), 2) := dk_16 252 (dk_at dksX7_gameOn_1 14 rfl rfl)
theorem dX7_gameOn_40 : decode cX7_gameOn 40 = .ok (.ireturn, 1) := dk_172 (dk_at dksX7_gameOn_1 16 rfl rfl)
abbrev cX7_alter : ByteArray := prog_11_method_32_code
def yX7_alter : MethodName := ⟨RX7, "alter", "(III)I"⟩
def dkwX7_alter_2 : List UInt8 := [133, 184, 0, 53, 153, 0, 7, 4, 167, 0, 4, 3, 8, 28, 104, 27, 96, 29, 182, 0, 176, 172]
abbrev dktX7_alter_2 : List UInt8 := dkwX7_alter_2 ++ []
def dkwX7_alter_1 : List UInt8 := [27, 182, 0, 131, 153, 0, 31, 28, 133, 9, 20, 0, 174, 184, 0, 53, 153, 0, 19, 29, 133, 9, 21, 4]
abbrev dktX7_alter_1 : List UInt8 := dkwX7_alter_1 ++ dktX7_alter_2
def dkwX7_alter_0 : List UInt8 := [28, 154, 0, 7, 6, 167, 0, 15, 28, 4, 160, 0, 8, 16, 20, 167, 0, 5, 16, 99, 54, 4, 42, 42]
abbrev dktX7_alter_0 : List UInt8 := dkwX7_alter_0 ++ dktX7_alter_1
theorem dksX7_alter_0 : cX7_alter.data.toList.drop 0 = dktX7_alter_0 := by decide +kernel
theorem dksX7_alter_1 : cX7_alter.data.toList.drop 24 = dktX7_alter_1 := dk_seg dksX7_alter_0 24 rfl rfl
theorem dksX7_alter_2 : cX7_alter.data.toList.drop 48 = dktX7_alter_2 := dk_seg dksX7_alter_1 24 rfl rfl
theorem dX7_alter_0 : decode cX7_alter 0 = .ok (.iload_n 2, 1) := dk_28 (dk_at dksX7_alter_0 0 rfl rfl)
theorem dX7_alter_1 : decode cX7_alter 1 = .ok (.ifCond .ne 7, 3) := dk_154 0 7 (dk_at dksX7_alter_0 1 rfl rfl)
theorem dX7_alter_4 : decode cX7_alter 4 = .ok (.iconst 3, 1) := dk_6 (dk_at dksX7_alter_0 4 rfl rfl)
theorem dX7_alter_5 : decode cX7_alter 5 = .ok (.goto 15, 3) := dk_167 0 15 (dk_at dksX7_alter_0 5 rfl rfl)
theorem dX7_alter_8 : decode cX7_alter 8 = .ok (.iload_n 2, 1) := dk_28 (dk_at dksX7_alter_0 8 rfl rfl)
theorem dX7_alter_9 : decode cX7_alter 9 = .ok (.iconst 1, 1) := dk_4 (dk_at dksX7_alter_0 9 rfl rfl)
theorem dX7_alter_10 : decode cX7_alter 10 = .ok (.if_icmp .ne 8, 3) := dk_160 0 8 (dk_at dksX7_alter_0 10 rfl rfl)
theorem dX7_alter_13 : decode cX7_alter 13 = .ok (.bipush 20, 2) := dk_16 20 (dk_at dksX7_alter_0 13 rfl rfl)
theorem dX7_alter_15 : decode cX7_alter 15 = .ok (.goto 5, 3) := dk_167 0 5 (dk_at dksX7_alter_0 15 rfl rfl)
theorem dX7_alter_18 : decode cX7_alter 18 = .ok (.bipush 99, 2) := dk_16 99 (dk_at dksX7_alter_0 18 rfl rfl)
theorem dX7_alter_20 : decode cX7_alter 20 = .ok (.istore 4, 2) := dk_54 4 (dk_at dksX7_alter_0 20 rfl rfl)
theorem dX7_alter_22 : decode cX7_alter 22 = .ok (.aload_n 0, 1) := dk_42 (dk_at dksX7_alter_0 22 rfl rfl)
theorem dX7_alter_23 : decode cX7_alter 23 = .ok (.aload_n 0, 1) := dk_42 (dk_at dksX7_alter_0 23 rfl rfl)
theorem dX7_alter_24 : decode cX7_alter 24 = .ok (.iload_n 1, 1) := dk_27 (dk_at dksX7_alter_1 0 rfl rfl)
theorem dX7_alter_25 : decode cX7_alter 25 = .ok (.invokevirtual 131, 3) := dk_182 0 131 (dk_at dksX7_alter_1 1 rfl rfl)
theorem dX7_alter_28 : decode cX7_alter 28 = .ok (.ifCond .eq 31, 3) := dk_153 0 31 (dk_at dksX7_alter_1 4 rfl rfl)
theorem dX7_alter_31 : decode cX7_alter 31 = .ok (.iload_n 2, 1) := dk_28 (dk_at dksX7_alter_1 7 rfl rfl)
theorem dX7_alter_32 : decode cX7_alter 32 = .ok (.i2l, 1) := dk_133 (dk_at dksX7_alter_1 8 rfl rfl)
theorem dX7_alter_33 : decode cX7_alter 33 = .ok (.lconst 0, 1) := dk_9 (dk_at dksX7_alter_1 9 rfl rfl)
theorem dX7_alter_34 : decode cX7_alter 34 = .ok (.ldc2_w 174, 3) := dk_20 0 174 (dk_at dksX7_alter_1 10 rfl rfl)
theorem dX7_alter_37 : decode cX7_alter 37 = .ok (.invokestatic 53, 3) := dk_184 0 53 (dk_at dksX7_alter_1 13 rfl rfl)
theorem dX7_alter_40 : decode cX7_alter 40 = .ok (.ifCond .eq 19, 3) := dk_153 0 19 (dk_at dksX7_alter_1 16 rfl rfl)
theorem dX7_alter_43 : decode cX7_alter 43 = .ok (.iload_n 3, 1) := dk_29 (dk_at dksX7_alter_1 19 rfl rfl)
theorem dX7_alter_44 : decode cX7_alter 44 = .ok (.i2l, 1) := dk_133 (dk_at dksX7_alter_1 20 rfl rfl)
theorem dX7_alter_45 : decode cX7_alter 45 = .ok (.lconst 0, 1) := dk_9 (dk_at dksX7_alter_1 21 rfl rfl)
theorem dX7_alter_46 : decode cX7_alter 46 = .ok (.iload 4, 2) := dk_21 4 (dk_at dksX7_alter_1 22 rfl rfl)
theorem dX7_alter_48 : decode cX7_alter 48 = .ok (.i2l, 1) := dk_133 (dk_at dksX7_alter_2 0 rfl rfl)
theorem dX7_alter_49 : decode cX7_alter 49 = .ok (.invokestatic 53, 3) := dk_184 0 53 (dk_at dksX7_alter_2 1 rfl rfl)
theorem dX7_alter_52 : decode cX7_alter 52 = .ok (.ifCond .eq 7, 3) := dk_153 0 7 (dk_at dksX7_alter_2 4 rfl rfl)
theorem dX7_alter_55 : decode cX7_alter 55 = .ok (.iconst 1, 1) := dk_4 (dk_at dksX7_alter_2 7 rfl rfl)
theorem dX7_alter_56 : decode cX7_alter 56 = .ok (.goto 4, 3) := dk_167 0 4 (dk_at dksX7_alter_2 8 rfl rfl)
theorem dX7_alter_59 : decode cX7_alter 59 = .ok (.iconst 0, 1) := dk_3 (dk_at dksX7_alter_2 11 rfl rfl)
theorem dX7_alter_60 : decode cX7_alter 60 = .ok (.iconst 5, 1) := dk_8 (dk_at dksX7_alter_2 12 rfl rfl)
theorem dX7_alter_61 : decode cX7_alter 61 = .ok (.iload_n 2, 1) := dk_28 (dk_at dksX7_alter_2 13 rfl rfl)
theorem dX7_alter_62 : decode cX7_alter 62 = .ok (.imul, 1) := dk_104 (dk_at dksX7_alter_2 14 rfl rfl)
theorem dX7_alter_63 : decode cX7_alter 63 = .ok (.iload_n 1, 1) := dk_27 (dk_at dksX7_alter_2 15 rfl rfl)
theorem dX7_alter_64 : decode cX7_alter 64 = .ok (.iadd, 1) := dk_96 (dk_at dksX7_alter_2 16 rfl rfl)
theorem dX7_alter_65 : decode cX7_alter 65 = .ok (.iload_n 3, 1) := dk_29 (dk_at dksX7_alter_2 17 rfl rfl)
theorem dX7_alter_66 : decode cX7_alter 66 = .ok (.invokevirtual 176, 3) := dk_182 0 176 (dk_at dksX7_alter_2 18 rfl rfl)
theorem dX7_alter_69 : decode cX7_alter 69 = .ok (.ireturn, 1) := dk_172 (dk_at dksX7_alter_2 21 rfl rfl)
abbrev cX7_puts : ByteArray := prog_11_method_31_code
def yX7_puts : MethodName := ⟨RX7, "puts", "(ZII)I"⟩
def dkwX7_puts_0 : List UInt8 := [27, 154, 0, 5, 2, 172, 42, 180, 0, 7, 28, 46, 54, 4, 42, 180, 0, 7, 28, 29, 79, 21, 4, 172]
abbrev dktX7_puts_0 : List UInt8 := dkwX7_puts_0 ++ []
theorem dksX7_puts_0 : cX7_puts.data.toList.drop 0 = dktX7_puts_0 := by decide +kernel
theorem dX7_puts_0 : decode cX7_puts 0 = .ok (.iload_n 1, 1) := dk_27 (dk_at dksX7_puts_0 0 rfl rfl)
theorem dX7_puts_1 : decode cX7_puts 1 = .ok (.ifCond .ne 5, 3) := dk_154 0 5 (dk_at dksX7_puts_0 1 rfl rfl)
theorem dX7_puts_4 : decode cX7_puts 4 = .ok (.iconst (-1), 1) := dk_2 (dk_at dksX7_puts_0 4 rfl rfl)
theorem dX7_puts_5 : decode cX7_puts 5 = .ok (.ireturn, 1) := dk_172 (dk_at dksX7_puts_0 5 rfl rfl)
theorem dX7_puts_6 : decode cX7_puts 6 = .ok (.aload_n 0, 1) := dk_42 (dk_at dksX7_puts_0 6 rfl rfl)
theorem dX7_puts_7 : decode cX7_puts 7 = .ok (.getfield 7, 3) := dk_180 0 7 (dk_at dksX7_puts_0 7 rfl rfl)
theorem dX7_puts_10 : decode cX7_puts 10 = .ok (.iload_n 2, 1) := dk_28 (dk_at dksX7_puts_0 10 rfl rfl)
theorem dX7_puts_11 : decode cX7_puts 11 = .ok (.iaload, 1) := dk_46 (dk_at dksX7_puts_0 11 rfl rfl)
theorem dX7_puts_12 : decode cX7_puts 12 = .ok (.istore 4, 2) := dk_54 4 (dk_at dksX7_puts_0 12 rfl rfl)
theorem dX7_puts_14 : decode cX7_puts 14 = .ok (.aload_n 0, 1) := dk_42 (dk_at dksX7_puts_0 14 rfl rfl)
theorem dX7_puts_15 : decode cX7_puts 15 = .ok (.getfield 7, 3) := dk_180 0 7 (dk_at dksX7_puts_0 15 rfl rfl)
theorem dX7_puts_18 : decode cX7_puts 18 = .ok (.iload_n 2, 1) := dk_28 (dk_at dksX7_puts_0 18 rfl rfl)
theorem dX7_puts_19 : decode cX7_puts 19 = .ok (.iload_n 3, 1) := dk_29 (dk_at dksX7_puts_0 19 rfl rfl)
theorem dX7_puts_20 : decode cX7_puts 20 = .ok (.iastore, 1) := dk_79 (dk_at dksX7_puts_0 20 rfl rfl)
theorem dX7_puts_21 : decode cX7_puts 21 = .ok (.iload 4, 2) := dk_21 4 (dk_at dksX7_puts_0 21 rfl rfl)
theorem dX7_puts_23 : decode cX7_puts 23 = .ok (.ireturn, 1) := dk_172 (dk_at dksX7_puts_0 23 rfl rfl)
abbrev cX7_lend : ByteArray := prog_11_method_34_code
def yX7_lend : MethodName := ⟨RX7, "lend", "(III)I"⟩
def dkwX7_lend_1 : List UInt8 := [28, 29, 182, 0, 182, 167, 0, 4, 2, 172]
abbrev dktX7_lend_1 : List UInt8 := dkwX7_lend_1 ++ []
def dkwX7_lend_0 : List UInt8 := [42, 27, 28, 182, 0, 170, 153, 0, 26, 29, 133, 9, 20, 0, 180, 184, 0, 53, 153, 0, 14, 42, 3, 27]
abbrev dktX7_lend_0 : List UInt8 := dkwX7_lend_0 ++ dktX7_lend_1
theorem dksX7_lend_0 : cX7_lend.data.toList.drop 0 = dktX7_lend_0 := by decide +kernel
theorem dksX7_lend_1 : cX7_lend.data.toList.drop 24 = dktX7_lend_1 := dk_seg dksX7_lend_0 24 rfl rfl
theorem dX7_lend_0 : decode cX7_lend 0 = .ok (.aload_n 0, 1) := dk_42 (dk_at dksX7_lend_0 0 rfl rfl)
theorem dX7_lend_1 : decode cX7_lend 1 = .ok (.iload_n 1, 1) := dk_27 (dk_at dksX7_lend_0 1 rfl rfl)
theorem dX7_lend_2 : decode cX7_lend 2 = .ok (.iload_n 2, 1) := dk_28 (dk_at dksX7_lend_0 2 rfl rfl)
theorem dX7_lend_3 : decode cX7_lend 3 = .ok (.invokevirtual 170, 3) := dk_182 0 170 (dk_at dksX7_lend_0 3 rfl rfl)
theorem dX7_lend_6 : decode cX7_lend 6 = .ok (.ifCond .eq 26, 3) := dk_153 0 26 (dk_at dksX7_lend_0 6 rfl rfl)
theorem dX7_lend_9 : decode cX7_lend 9 = .ok (.iload_n 3, 1) := dk_29 (dk_at dksX7_lend_0 9 rfl rfl)
theorem dX7_lend_10 : decode cX7_lend 10 = .ok (.i2l, 1) := dk_133 (dk_at dksX7_lend_0 10 rfl rfl)
theorem dX7_lend_11 : decode cX7_lend 11 = .ok (.lconst 0, 1) := dk_9 (dk_at dksX7_lend_0 11 rfl rfl)
theorem dX7_lend_12 : decode cX7_lend 12 = .ok (.ldc2_w 180, 3) := dk_20 0 180 (dk_at dksX7_lend_0 12 rfl rfl)
theorem dX7_lend_15 : decode cX7_lend 15 = .ok (.invokestatic 53, 3) := dk_184 0 53 (dk_at dksX7_lend_0 15 rfl rfl)
theorem dX7_lend_18 : decode cX7_lend 18 = .ok (.ifCond .eq 14, 3) := dk_153 0 14 (dk_at dksX7_lend_0 18 rfl rfl)
theorem dX7_lend_21 : decode cX7_lend 21 = .ok (.aload_n 0, 1) := dk_42 (dk_at dksX7_lend_0 21 rfl rfl)
theorem dX7_lend_22 : decode cX7_lend 22 = .ok (.iconst 0, 1) := dk_3 (dk_at dksX7_lend_0 22 rfl rfl)
theorem dX7_lend_23 : decode cX7_lend 23 = .ok (.iload_n 1, 1) := dk_27 (dk_at dksX7_lend_0 23 rfl rfl)
theorem dX7_lend_24 : decode cX7_lend 24 = .ok (.iload_n 2, 1) := dk_28 (dk_at dksX7_lend_1 0 rfl rfl)
theorem dX7_lend_25 : decode cX7_lend 25 = .ok (.iload_n 3, 1) := dk_29 (dk_at dksX7_lend_1 1 rfl rfl)
theorem dX7_lend_26 : decode cX7_lend 26 = .ok (.invokevirtual 182, 3) := dk_182 0 182 (dk_at dksX7_lend_1 2 rfl rfl)
theorem dX7_lend_29 : decode cX7_lend 29 = .ok (.goto 4, 3) := dk_167 0 4 (dk_at dksX7_lend_1 5 rfl rfl)
theorem dX7_lend_32 : decode cX7_lend 32 = .ok (.iconst (-1), 1) := dk_2 (dk_at dksX7_lend_1 8 rfl rfl)
theorem dX7_lend_33 : decode cX7_lend 33 = .ok (.ireturn, 1) := dk_172 (dk_at dksX7_lend_1 9 rfl rfl)
abbrev cX7_lendsOn : ByteArray := prog_11_method_33_code
def yX7_lendsOn : MethodName := ⟨RX7, "lendsOn", "(IIII)I"⟩
def dkwX7_lendsOn_3 : List UInt8 := [180, 0, 7, 27, 8, 96, 28, 96, 46, 172]
abbrev dktX7_lendsOn_3 : List UInt8 := dkwX7_lendsOn_3 ++ []
def dkwX7_lendsOn_2 : List UInt8 := [92, 46, 21, 4, 100, 79, 42, 180, 0, 7, 27, 8, 96, 29, 96, 92, 46, 21, 4, 96, 79, 42]
abbrev dktX7_lendsOn_2 : List UInt8 := dkwX7_lendsOn_2 ++ dktX7_lendsOn_3
def dkwX7_lendsOn_1 : List UInt8 := [96, 29, 96, 46, 21, 4, 96, 16, 20, 164, 0, 6, 16, 253, 172, 42, 180, 0, 7, 27, 8, 96, 28, 96]
abbrev dktX7_lendsOn_1 : List UInt8 := dkwX7_lendsOn_1 ++ dktX7_lendsOn_2
def dkwX7_lendsOn_0 : List UInt8 := [42, 180, 0, 7, 27, 8, 96, 28, 96, 46, 21, 4, 162, 0, 6, 16, 254, 172, 42, 180, 0, 7, 27, 8]
abbrev dktX7_lendsOn_0 : List UInt8 := dkwX7_lendsOn_0 ++ dktX7_lendsOn_1
theorem dksX7_lendsOn_0 : cX7_lendsOn.data.toList.drop 0 = dktX7_lendsOn_0 := by decide +kernel
theorem dksX7_lendsOn_1 : cX7_lendsOn.data.toList.drop 24 = dktX7_lendsOn_1 := dk_seg dksX7_lendsOn_0 24 rfl rfl
theorem dksX7_lendsOn_2 : cX7_lendsOn.data.toList.drop 48 = dktX7_lendsOn_2 := dk_seg dksX7_lendsOn_1 24 rfl rfl
theorem dksX7_lendsOn_3 : cX7_lendsOn.data.toList.drop 70 = dktX7_lendsOn_3 := dk_seg dksX7_lendsOn_2 22 rfl rfl
theorem dX7_lendsOn_0 : decode cX7_lendsOn 0 = .ok (.aload_n 0, 1) := dk_42 (dk_at dksX7_lendsOn_0 0 rfl rfl)
theorem dX7_lendsOn_1 : decode cX7_lendsOn 1 = .ok (.getfield 7, 3) := dk_180 0 7 (dk_at dksX7_lendsOn_0 1 rfl rfl)
theorem dX7_lendsOn_4 : decode cX7_lendsOn 4 = .ok (.iload_n 1, 1) := dk_27 (dk_at dksX7_lendsOn_0 4 rfl rfl)
theorem dX7_lendsOn_5 : decode cX7_lendsOn 5 = .ok (.iconst 5, 1) := dk_8 (dk_at dksX7_lendsOn_0 5 rfl rfl)
theorem dX7_lendsOn_6 : decode cX7_lendsOn 6 = .ok (.iadd, 1) := dk_96 (dk_at dksX7_lendsOn_0 6 rfl rfl)
theorem dX7_lendsOn_7 : decode cX7_lendsOn 7 = .ok (.iload_n 2, 1) := dk_28 (dk_at dksX7_lendsOn_0 7 rfl rfl)
theorem dX7_lendsOn_8 : decode cX7_lendsOn 8 = .ok (.iadd, 1) := dk_96 (dk_at dksX7_lendsOn_0 8 rfl rfl)
theorem dX7_lendsOn_9 : decode cX7_lendsOn 9 = .ok (.iaload, 1) := dk_46 (dk_at dksX7_lendsOn_0 9 rfl rfl)
theorem dX7_lendsOn_10 : decode cX7_lendsOn 10 = .ok (.iload 4, 2) := dk_21 4 (dk_at dksX7_lendsOn_0 10 rfl rfl)
theorem dX7_lendsOn_12 : decode cX7_lendsOn 12 = .ok (.if_icmp .ge 6, 3) := dk_162 0 6 (dk_at dksX7_lendsOn_0 12 rfl rfl)
theorem dX7_lendsOn_15 : decode cX7_lendsOn 15 = .ok (.bipush (-2), 2) := dk_16 254 (dk_at dksX7_lendsOn_0 15 rfl rfl)
theorem dX7_lendsOn_17 : decode cX7_lendsOn 17 = .ok (.ireturn, 1) := dk_172 (dk_at dksX7_lendsOn_0 17 rfl rfl)
theorem dX7_lendsOn_18 : decode cX7_lendsOn 18 = .ok (.aload_n 0, 1) := dk_42 (dk_at dksX7_lendsOn_0 18 rfl rfl)
theorem dX7_lendsOn_19 : decode cX7_lendsOn 19 = .ok (.getfield 7, 3) := dk_180 0 7 (dk_at dksX7_lendsOn_0 19 rfl rfl)
theorem dX7_lendsOn_22 : decode cX7_lendsOn 22 = .ok (.iload_n 1, 1) := dk_27 (dk_at dksX7_lendsOn_0 22 rfl rfl)
theorem dX7_lendsOn_23 : decode cX7_lendsOn 23 = .ok (.iconst 5, 1) := dk_8 (dk_at dksX7_lendsOn_0 23 rfl rfl)
theorem dX7_lendsOn_24 : decode cX7_lendsOn 24 = .ok (.iadd, 1) := dk_96 (dk_at dksX7_lendsOn_1 0 rfl rfl)
theorem dX7_lendsOn_25 : decode cX7_lendsOn 25 = .ok (.iload_n 3, 1) := dk_29 (dk_at dksX7_lendsOn_1 1 rfl rfl)
theorem dX7_lendsOn_26 : decode cX7_lendsOn 26 = .ok (.iadd, 1) := dk_96 (dk_at dksX7_lendsOn_1 2 rfl rfl)
theorem dX7_lendsOn_27 : decode cX7_lendsOn 27 = .ok (.iaload, 1) := dk_46 (dk_at dksX7_lendsOn_1 3 rfl rfl)
theorem dX7_lendsOn_28 : decode cX7_lendsOn 28 = .ok (.iload 4, 2) := dk_21 4 (dk_at dksX7_lendsOn_1 4 rfl rfl)
theorem dX7_lendsOn_30 : decode cX7_lendsOn 30 = .ok (.iadd, 1) := dk_96 (dk_at dksX7_lendsOn_1 6 rfl rfl)
theorem dX7_lendsOn_31 : decode cX7_lendsOn 31 = .ok (.bipush 20, 2) := dk_16 20 (dk_at dksX7_lendsOn_1 7 rfl rfl)
theorem dX7_lendsOn_33 : decode cX7_lendsOn 33 = .ok (.if_icmp .le 6, 3) := dk_164 0 6 (dk_at dksX7_lendsOn_1 9 rfl rfl)
theorem dX7_lendsOn_36 : decode cX7_lendsOn 36 = .ok (.bipush (-3), 2) := dk_16 253 (dk_at dksX7_lendsOn_1 12 rfl rfl)
theorem dX7_lendsOn_38 : decode cX7_lendsOn 38 = .ok (.ireturn, 1) := dk_172 (dk_at dksX7_lendsOn_1 14 rfl rfl)
theorem dX7_lendsOn_39 : decode cX7_lendsOn 39 = .ok (.aload_n 0, 1) := dk_42 (dk_at dksX7_lendsOn_1 15 rfl rfl)
theorem dX7_lendsOn_40 : decode cX7_lendsOn 40 = .ok (.getfield 7, 3) := dk_180 0 7 (dk_at dksX7_lendsOn_1 16 rfl rfl)
theorem dX7_lendsOn_43 : decode cX7_lendsOn 43 = .ok (.iload_n 1, 1) := dk_27 (dk_at dksX7_lendsOn_1 19 rfl rfl)
theorem dX7_lendsOn_44 : decode cX7_lendsOn 44 = .ok (.iconst 5, 1) := dk_8 (dk_at dksX7_lendsOn_1 20 rfl rfl)
theorem dX7_lendsOn_45 : decode cX7_lendsOn 45 = .ok (.iadd, 1) := dk_96 (dk_at dksX7_lendsOn_1 21 rfl rfl)
theorem dX7_lendsOn_46 : decode cX7_lendsOn 46 = .ok (.iload_n 2, 1) := dk_28 (dk_at dksX7_lendsOn_1 22 rfl rfl)
theorem dX7_lendsOn_47 : decode cX7_lendsOn 47 = .ok (.iadd, 1) := dk_96 (dk_at dksX7_lendsOn_1 23 rfl rfl)
theorem dX7_lendsOn_48 : decode cX7_lendsOn 48 = .ok (.dup2, 1) := dk_92 (dk_at dksX7_lendsOn_2 0 rfl rfl)
theorem dX7_lendsOn_49 : decode cX7_lendsOn 49 = .ok (.iaload, 1) := dk_46 (dk_at dksX7_lendsOn_2 1 rfl rfl)
theorem dX7_lendsOn_50 : decode cX7_lendsOn 50 = .ok (.iload 4, 2) := dk_21 4 (dk_at dksX7_lendsOn_2 2 rfl rfl)
theorem dX7_lendsOn_52 : decode cX7_lendsOn 52 = .ok (.isub, 1) := dk_100 (dk_at dksX7_lendsOn_2 4 rfl rfl)
theorem dX7_lendsOn_53 : decode cX7_lendsOn 53 = .ok (.iastore, 1) := dk_79 (dk_at dksX7_lendsOn_2 5 rfl rfl)
theorem dX7_lendsOn_54 : decode cX7_lendsOn 54 = .ok (.aload_n 0, 1) := dk_42 (dk_at dksX7_lendsOn_2 6 rfl rfl)
theorem dX7_lendsOn_55 : decode cX7_lendsOn 55 = .ok (.getfield 7, 3) := dk_180 0 7 (dk_at dksX7_lendsOn_2 7 rfl rfl)
theorem dX7_lendsOn_58 : decode cX7_lendsOn 58 = .ok (.iload_n 1, 1) := dk_27 (dk_at dksX7_lendsOn_2 10 rfl rfl)
theorem dX7_lendsOn_59 : decode cX7_lendsOn 59 = .ok (.iconst 5, 1) := dk_8 (dk_at dksX7_lendsOn_2 11 rfl rfl)
theorem dX7_lendsOn_60 : decode cX7_lendsOn 60 = .ok (.iadd, 1) := dk_96 (dk_at dksX7_lendsOn_2 12 rfl rfl)
theorem dX7_lendsOn_61 : decode cX7_lendsOn 61 = .ok (.iload_n 3, 1) := dk_29 (dk_at dksX7_lendsOn_2 13 rfl rfl)
theorem dX7_lendsOn_62 : decode cX7_lendsOn 62 = .ok (.iadd, 1) := dk_96 (dk_at dksX7_lendsOn_2 14 rfl rfl)
theorem dX7_lendsOn_63 : decode cX7_lendsOn 63 = .ok (.dup2, 1) := dk_92 (dk_at dksX7_lendsOn_2 15 rfl rfl)
theorem dX7_lendsOn_64 : decode cX7_lendsOn 64 = .ok (.iaload, 1) := dk_46 (dk_at dksX7_lendsOn_2 16 rfl rfl)
theorem dX7_lendsOn_65 : decode cX7_lendsOn 65 = .ok (.iload 4, 2) := dk_21 4 (dk_at dksX7_lendsOn_2 17 rfl rfl)
theorem dX7_lendsOn_67 : decode cX7_lendsOn 67 = .ok (.iadd, 1) := dk_96 (dk_at dksX7_lendsOn_2 19 rfl rfl)
theorem dX7_lendsOn_68 : decode cX7_lendsOn 68 = .ok (.iastore, 1) := dk_79 (dk_at dksX7_lendsOn_2 20 rfl rfl)
theorem dX7_lendsOn_69 : decode cX7_lendsOn 69 = .ok (.aload_n 0, 1) := dk_42 (dk_at dksX7_lendsOn_2 21 rfl rfl)
theorem dX7_lendsOn_70 : decode cX7_lendsOn 70 = .ok (.getfield 7, 3) := dk_180 0 7 (dk_at dksX7_lendsOn_3 0 rfl rfl)
theorem dX7_lendsOn_73 : decode cX7_lendsOn 73 = .ok (.iload_n 1, 1) := dk_27 (dk_at dksX7_lendsOn_3 3 rfl rfl)
theorem dX7_lendsOn_74 : decode cX7_lendsOn 74 = .ok (.iconst 5, 1) := dk_8 (dk_at dksX7_lendsOn_3 4 rfl rfl)
theorem dX7_lendsOn_75 : decode cX7_lendsOn 75 = .ok (.iadd, 1) := dk_96 (dk_at dksX7_lendsOn_3 5 rfl rfl)
theorem dX7_lendsOn_76 : decode cX7_lendsOn 76 = .ok (.iload_n 2, 1) := dk_28 (dk_at dksX7_lendsOn_3 6 rfl rfl)
theorem dX7_lendsOn_77 : decode cX7_lendsOn 77 = .ok (.iadd, 1) := dk_96 (dk_at dksX7_lendsOn_3 7 rfl rfl)
theorem dX7_lendsOn_78 : decode cX7_lendsOn 78 = .ok (.iaload, 1) := dk_46 (dk_at dksX7_lendsOn_3 8 rfl rfl)
theorem dX7_lendsOn_79 : decode cX7_lendsOn 79 = .ok (.ireturn, 1) := dk_172 (dk_at dksX7_lendsOn_3 9 rfl rfl)
abbrev cX7_book : ByteArray := prog_11_method_36_code
def yX7_book : MethodName := ⟨RX7, "book", "(II)I"⟩
def dkwX7_book_0 : List UInt8 := [42, 27, 28, 182, 0, 186, 172]
abbrev dktX7_book_0 : List UInt8 := dkwX7_book_0 ++ []
theorem dksX7_book_0 : cX7_book.data.toList.drop 0 = dktX7_book_0 := by decide +kernel
theorem dX7_book_0 : decode cX7_book 0 = .ok (.aload_n 0, 1) := dk_42 (dk_at dksX7_book_0 0 rfl rfl)
theorem dX7_book_1 : decode cX7_book 1 = .ok (.iload_n 1, 1) := dk_27 (dk_at dksX7_book_0 1 rfl rfl)
theorem dX7_book_2 : decode cX7_book 2 = .ok (.iload_n 2, 1) := dk_28 (dk_at dksX7_book_0 2 rfl rfl)
theorem dX7_book_3 : decode cX7_book 3 = .ok (.invokevirtual 186, 3) := dk_182 0 186 (dk_at dksX7_book_0 3 rfl rfl)
theorem dX7_book_6 : decode cX7_book 6 = .ok (.ireturn, 1) := dk_172 (dk_at dksX7_book_0 6 rfl rfl)
abbrev cX7_books : ByteArray := prog_11_method_35_code
def yX7_books : MethodName := ⟨RX7, "books", "(II)I"⟩
def dkwX7_books_2 : List UInt8 := [28, 79, 42, 180, 0, 7, 16, 40, 92, 46, 4, 96, 79, 42, 180, 0, 7, 16, 40, 46, 172]
abbrev dktX7_books_2 : List UInt8 := dkwX7_books_2 ++ []
def dkwX7_books_1 : List UInt8 := [160, 0, 6, 16, 253, 172, 42, 180, 0, 7, 16, 20, 29, 96, 27, 79, 42, 180, 0, 7, 16, 30, 29, 96]
abbrev dktX7_books_1 : List UInt8 := dkwX7_books_1 ++ dktX7_books_2
def dkwX7_books_0 : List UInt8 := [42, 27, 28, 182, 0, 170, 154, 0, 5, 2, 172, 42, 180, 0, 7, 16, 40, 46, 62, 29, 16, 10]
abbrev dktX7_books_0 : List UInt8 := dkwX7_books_0 ++ dktX7_books_1
theorem dksX7_books_0 : cX7_books.data.toList.drop 0 = dktX7_books_0 := by decide +kernel
theorem dksX7_books_1 : cX7_books.data.toList.drop 22 = dktX7_books_1 := dk_seg dksX7_books_0 22 rfl rfl
theorem dksX7_books_2 : cX7_books.data.toList.drop 46 = dktX7_books_2 := dk_seg dksX7_books_1 24 rfl rfl
theorem dX7_books_0 : decode cX7_books 0 = .ok (.aload_n 0, 1) := dk_42 (dk_at dksX7_books_0 0 rfl rfl)
theorem dX7_books_1 : decode cX7_books 1 = .ok (.iload_n 1, 1) := dk_27 (dk_at dksX7_books_0 1 rfl rfl)
theorem dX7_books_2 : decode cX7_books 2 = .ok (.iload_n 2, 1) := dk_28 (dk_at dksX7_books_0 2 rfl rfl)
theorem dX7_books_3 : decode cX7_books 3 = .ok (.invokevirtual 170, 3) := dk_182 0 170 (dk_at dksX7_books_0 3 rfl rfl)
theorem dX7_books_6 : decode cX7_books 6 = .ok (.ifCond .ne 5, 3) := dk_154 0 5 (dk_at dksX7_books_0 6 rfl rfl)
theorem dX7_books_9 : decode cX7_books 9 = .ok (.iconst (-1), 1) := dk_2 (dk_at dksX7_books_0 9 rfl rfl)
theorem dX7_books_10 : decode cX7_books 10 = .ok (.ireturn, 1) := dk_172 (dk_at dksX7_books_0 10 rfl rfl)
theorem dX7_books_11 : decode cX7_books 11 = .ok (.aload_n 0, 1) := dk_42 (dk_at dksX7_books_0 11 rfl rfl)
theorem dX7_books_12 : decode cX7_books 12 = .ok (.getfield 7, 3) := dk_180 0 7 (dk_at dksX7_books_0 12 rfl rfl)
theorem dX7_books_15 : decode cX7_books 15 = .ok (.bipush 40, 2) := dk_16 40 (dk_at dksX7_books_0 15 rfl rfl)
theorem dX7_books_17 : decode cX7_books 17 = .ok (.iaload, 1) := dk_46 (dk_at dksX7_books_0 17 rfl rfl)
theorem dX7_books_18 : decode cX7_books 18 = .ok (.istore_n 3, 1) := dk_62 (dk_at dksX7_books_0 18 rfl rfl)
theorem dX7_books_19 : decode cX7_books 19 = .ok (.iload_n 3, 1) := dk_29 (dk_at dksX7_books_0 19 rfl rfl)
theorem dX7_books_20 : decode cX7_books 20 = .ok (.bipush 10, 2) := dk_16 10 (dk_at dksX7_books_0 20 rfl rfl)
theorem dX7_books_22 : decode cX7_books 22 = .ok (.if_icmp .ne 6, 3) := dk_160 0 6 (dk_at dksX7_books_1 0 rfl rfl)
theorem dX7_books_25 : decode cX7_books 25 = .ok (.bipush (-3), 2) := dk_16 253 (dk_at dksX7_books_1 3 rfl rfl)
theorem dX7_books_27 : decode cX7_books 27 = .ok (.ireturn, 1) := dk_172 (dk_at dksX7_books_1 5 rfl rfl)
theorem dX7_books_28 : decode cX7_books 28 = .ok (.aload_n 0, 1) := dk_42 (dk_at dksX7_books_1 6 rfl rfl)
theorem dX7_books_29 : decode cX7_books 29 = .ok (.getfield 7, 3) := dk_180 0 7 (dk_at dksX7_books_1 7 rfl rfl)
theorem dX7_books_32 : decode cX7_books 32 = .ok (.bipush 20, 2) := dk_16 20 (dk_at dksX7_books_1 10 rfl rfl)
theorem dX7_books_34 : decode cX7_books 34 = .ok (.iload_n 3, 1) := dk_29 (dk_at dksX7_books_1 12 rfl rfl)
theorem dX7_books_35 : decode cX7_books 35 = .ok (.iadd, 1) := dk_96 (dk_at dksX7_books_1 13 rfl rfl)
theorem dX7_books_36 : decode cX7_books 36 = .ok (.iload_n 1, 1) := dk_27 (dk_at dksX7_books_1 14 rfl rfl)
theorem dX7_books_37 : decode cX7_books 37 = .ok (.iastore, 1) := dk_79 (dk_at dksX7_books_1 15 rfl rfl)
theorem dX7_books_38 : decode cX7_books 38 = .ok (.aload_n 0, 1) := dk_42 (dk_at dksX7_books_1 16 rfl rfl)
theorem dX7_books_39 : decode cX7_books 39 = .ok (.getfield 7, 3) := dk_180 0 7 (dk_at dksX7_books_1 17 rfl rfl)
theorem dX7_books_42 : decode cX7_books 42 = .ok (.bipush 30, 2) := dk_16 30 (dk_at dksX7_books_1 20 rfl rfl)
theorem dX7_books_44 : decode cX7_books 44 = .ok (.iload_n 3, 1) := dk_29 (dk_at dksX7_books_1 22 rfl rfl)
theorem dX7_books_45 : decode cX7_books 45 = .ok (.iadd, 1) := dk_96 (dk_at dksX7_books_1 23 rfl rfl)
theorem dX7_books_46 : decode cX7_books 46 = .ok (.iload_n 2, 1) := dk_28 (dk_at dksX7_books_2 0 rfl rfl)
theorem dX7_books_47 : decode cX7_books 47 = .ok (.iastore, 1) := dk_79 (dk_at dksX7_books_2 1 rfl rfl)
theorem dX7_books_48 : decode cX7_books 48 = .ok (.aload_n 0, 1) := dk_42 (dk_at dksX7_books_2 2 rfl rfl)
theorem dX7_books_49 : decode cX7_books 49 = .ok (.getfield 7, 3) := dk_180 0 7 (dk_at dksX7_books_2 3 rfl rfl)
theorem dX7_books_52 : decode cX7_books 52 = .ok (.bipush 40, 2) := dk_16 40 (dk_at dksX7_books_2 6 rfl rfl)
theorem dX7_books_54 : decode cX7_books 54 = .ok (.dup2, 1) := dk_92 (dk_at dksX7_books_2 8 rfl rfl)
theorem dX7_books_55 : decode cX7_books 55 = .ok (.iaload, 1) := dk_46 (dk_at dksX7_books_2 9 rfl rfl)
theorem dX7_books_56 : decode cX7_books 56 = .ok (.iconst 1, 1) := dk_4 (dk_at dksX7_books_2 10 rfl rfl)
theorem dX7_books_57 : decode cX7_books 57 = .ok (.iadd, 1) := dk_96 (dk_at dksX7_books_2 11 rfl rfl)
theorem dX7_books_58 : decode cX7_books 58 = .ok (.iastore, 1) := dk_79 (dk_at dksX7_books_2 12 rfl rfl)
theorem dX7_books_59 : decode cX7_books 59 = .ok (.aload_n 0, 1) := dk_42 (dk_at dksX7_books_2 13 rfl rfl)
theorem dX7_books_60 : decode cX7_books 60 = .ok (.getfield 7, 3) := dk_180 0 7 (dk_at dksX7_books_2 14 rfl rfl)
theorem dX7_books_63 : decode cX7_books 63 = .ok (.bipush 40, 2) := dk_16 40 (dk_at dksX7_books_2 17 rfl rfl)
theorem dX7_books_65 : decode cX7_books 65 = .ok (.iaload, 1) := dk_46 (dk_at dksX7_books_2 19 rfl rfl)
theorem dX7_books_66 : decode cX7_books 66 = .ok (.ireturn, 1) := dk_172 (dk_at dksX7_books_2 20 rfl rfl)
abbrev cX7_strike : ByteArray := prog_11_method_37_code
def yX7_strike : MethodName := ⟨RX7, "strike", "(I)I"⟩
def dkwX7_strike_0 : List UInt8 := [42, 27, 133, 9, 42, 180, 0, 7, 16, 40, 46, 133, 184, 0, 53, 16, 40, 27, 182, 0, 176, 172]
abbrev dktX7_strike_0 : List UInt8 := dkwX7_strike_0 ++ []
theorem dksX7_strike_0 : cX7_strike.data.toList.drop 0 = dktX7_strike_0 := by decide +kernel
theorem dX7_strike_0 : decode cX7_strike 0 = .ok (.aload_n 0, 1) := dk_42 (dk_at dksX7_strike_0 0 rfl rfl)
theorem dX7_strike_1 : decode cX7_strike 1 = .ok (.iload_n 1, 1) := dk_27 (dk_at dksX7_strike_0 1 rfl rfl)
theorem dX7_strike_2 : decode cX7_strike 2 = .ok (.i2l, 1) := dk_133 (dk_at dksX7_strike_0 2 rfl rfl)
theorem dX7_strike_3 : decode cX7_strike 3 = .ok (.lconst 0, 1) := dk_9 (dk_at dksX7_strike_0 3 rfl rfl)
theorem dX7_strike_4 : decode cX7_strike 4 = .ok (.aload_n 0, 1) := dk_42 (dk_at dksX7_strike_0 4 rfl rfl)
theorem dX7_strike_5 : decode cX7_strike 5 = .ok (.getfield 7, 3) := dk_180 0 7 (dk_at dksX7_strike_0 5 rfl rfl)
theorem dX7_strike_8 : decode cX7_strike 8 = .ok (.bipush 40, 2) := dk_16 40 (dk_at dksX7_strike_0 8 rfl rfl)
theorem dX7_strike_10 : decode cX7_strike 10 = .ok (.iaload, 1) := dk_46 (dk_at dksX7_strike_0 10 rfl rfl)
theorem dX7_strike_11 : decode cX7_strike 11 = .ok (.i2l, 1) := dk_133 (dk_at dksX7_strike_0 11 rfl rfl)
theorem dX7_strike_12 : decode cX7_strike 12 = .ok (.invokestatic 53, 3) := dk_184 0 53 (dk_at dksX7_strike_0 12 rfl rfl)
theorem dX7_strike_15 : decode cX7_strike 15 = .ok (.bipush 40, 2) := dk_16 40 (dk_at dksX7_strike_0 15 rfl rfl)
theorem dX7_strike_17 : decode cX7_strike 17 = .ok (.iload_n 1, 1) := dk_27 (dk_at dksX7_strike_0 17 rfl rfl)
theorem dX7_strike_18 : decode cX7_strike 18 = .ok (.invokevirtual 176, 3) := dk_182 0 176 (dk_at dksX7_strike_0 18 rfl rfl)
theorem dX7_strike_21 : decode cX7_strike 21 = .ok (.ireturn, 1) := dk_172 (dk_at dksX7_strike_0 21 rfl rfl)
abbrev cX7_weeks : ByteArray := prog_11_method_38_code
def yX7_weeks : MethodName := ⟨RX7, "weeks", "(I)I"⟩
def dkwX7_weeks_2 : List UInt8 := [182, 0, 191, 132, 2, 1, 167, 255, 242, 42, 180, 0, 148, 172]
abbrev dktX7_weeks_2 : List UInt8 := dkwX7_weeks_2 ++ []
def dkwX7_weeks_1 : List UInt8 := [17, 3, 231, 164, 0, 6, 16, 253, 172, 42, 3, 181, 0, 148, 3, 61, 28, 27, 162, 0, 15, 42, 3, 3]
abbrev dktX7_weeks_1 : List UInt8 := dkwX7_weeks_1 ++ dktX7_weeks_2
def dkwX7_weeks_0 : List UInt8 := [27, 133, 9, 20, 0, 189, 184, 0, 53, 154, 0, 5, 2, 172, 42, 180, 0, 7, 16, 41, 46, 27, 96]
abbrev dktX7_weeks_0 : List UInt8 := dkwX7_weeks_0 ++ dktX7_weeks_1
theorem dksX7_weeks_0 : cX7_weeks.data.toList.drop 0 = dktX7_weeks_0 := by decide +kernel
theorem dksX7_weeks_1 : cX7_weeks.data.toList.drop 23 = dktX7_weeks_1 := dk_seg dksX7_weeks_0 23 rfl rfl
theorem dksX7_weeks_2 : cX7_weeks.data.toList.drop 47 = dktX7_weeks_2 := dk_seg dksX7_weeks_1 24 rfl rfl
theorem dX7_weeks_0 : decode cX7_weeks 0 = .ok (.iload_n 1, 1) := dk_27 (dk_at dksX7_weeks_0 0 rfl rfl)
theorem dX7_weeks_1 : decode cX7_weeks 1 = .ok (.i2l, 1) := dk_133 (dk_at dksX7_weeks_0 1 rfl rfl)
theorem dX7_weeks_2 : decode cX7_weeks 2 = .ok (.lconst 0, 1) := dk_9 (dk_at dksX7_weeks_0 2 rfl rfl)
theorem dX7_weeks_3 : decode cX7_weeks 3 = .ok (.ldc2_w 189, 3) := dk_20 0 189 (dk_at dksX7_weeks_0 3 rfl rfl)
theorem dX7_weeks_6 : decode cX7_weeks 6 = .ok (.invokestatic 53, 3) := dk_184 0 53 (dk_at dksX7_weeks_0 6 rfl rfl)
theorem dX7_weeks_9 : decode cX7_weeks 9 = .ok (.ifCond .ne 5, 3) := dk_154 0 5 (dk_at dksX7_weeks_0 9 rfl rfl)
theorem dX7_weeks_12 : decode cX7_weeks 12 = .ok (.iconst (-1), 1) := dk_2 (dk_at dksX7_weeks_0 12 rfl rfl)
theorem dX7_weeks_13 : decode cX7_weeks 13 = .ok (.ireturn, 1) := dk_172 (dk_at dksX7_weeks_0 13 rfl rfl)
theorem dX7_weeks_14 : decode cX7_weeks 14 = .ok (.aload_n 0, 1) := dk_42 (dk_at dksX7_weeks_0 14 rfl rfl)
theorem dX7_weeks_15 : decode cX7_weeks 15 = .ok (.getfield 7, 3) := dk_180 0 7 (dk_at dksX7_weeks_0 15 rfl rfl)
theorem dX7_weeks_18 : decode cX7_weeks 18 = .ok (.bipush 41, 2) := dk_16 41 (dk_at dksX7_weeks_0 18 rfl rfl)
theorem dX7_weeks_20 : decode cX7_weeks 20 = .ok (.iaload, 1) := dk_46 (dk_at dksX7_weeks_0 20 rfl rfl)
theorem dX7_weeks_21 : decode cX7_weeks 21 = .ok (.iload_n 1, 1) := dk_27 (dk_at dksX7_weeks_0 21 rfl rfl)
theorem dX7_weeks_22 : decode cX7_weeks 22 = .ok (.iadd, 1) := dk_96 (dk_at dksX7_weeks_0 22 rfl rfl)
theorem dX7_weeks_23 : decode cX7_weeks 23 = .ok (.sipush 999, 3) := dk_17 3 231 (dk_at dksX7_weeks_1 0 rfl rfl)
theorem dX7_weeks_26 : decode cX7_weeks 26 = .ok (.if_icmp .le 6, 3) := dk_164 0 6 (dk_at dksX7_weeks_1 3 rfl rfl)
theorem dX7_weeks_29 : decode cX7_weeks 29 = .ok (.bipush (-3), 2) := dk_16 253 (dk_at dksX7_weeks_1 6 rfl rfl)
theorem dX7_weeks_31 : decode cX7_weeks 31 = .ok (.ireturn, 1) := dk_172 (dk_at dksX7_weeks_1 8 rfl rfl)
theorem dX7_weeks_32 : decode cX7_weeks 32 = .ok (.aload_n 0, 1) := dk_42 (dk_at dksX7_weeks_1 9 rfl rfl)
theorem dX7_weeks_33 : decode cX7_weeks 33 = .ok (.iconst 0, 1) := dk_3 (dk_at dksX7_weeks_1 10 rfl rfl)
theorem dX7_weeks_34 : decode cX7_weeks 34 = .ok (.putfield 148, 3) := dk_181 0 148 (dk_at dksX7_weeks_1 11 rfl rfl)
theorem dX7_weeks_37 : decode cX7_weeks 37 = .ok (.iconst 0, 1) := dk_3 (dk_at dksX7_weeks_1 14 rfl rfl)
theorem dX7_weeks_38 : decode cX7_weeks 38 = .ok (.istore_n 2, 1) := dk_61 (dk_at dksX7_weeks_1 15 rfl rfl)
theorem dX7_weeks_39 : decode cX7_weeks 39 = .ok (.iload_n 2, 1) := dk_28 (dk_at dksX7_weeks_1 16 rfl rfl)
theorem dX7_weeks_40 : decode cX7_weeks 40 = .ok (.iload_n 1, 1) := dk_27 (dk_at dksX7_weeks_1 17 rfl rfl)
theorem dX7_weeks_41 : decode cX7_weeks 41 = .ok (.if_icmp .ge 15, 3) := dk_162 0 15 (dk_at dksX7_weeks_1 18 rfl rfl)
theorem dX7_weeks_44 : decode cX7_weeks 44 = .ok (.aload_n 0, 1) := dk_42 (dk_at dksX7_weeks_1 21 rfl rfl)
theorem dX7_weeks_45 : decode cX7_weeks 45 = .ok (.iconst 0, 1) := dk_3 (dk_at dksX7_weeks_1 22 rfl rfl)
theorem dX7_weeks_46 : decode cX7_weeks 46 = .ok (.iconst 0, 1) := dk_3 (dk_at dksX7_weeks_1 23 rfl rfl)
theorem dX7_weeks_47 : decode cX7_weeks 47 = .ok (.invokevirtual 191, 3) := dk_182 0 191 (dk_at dksX7_weeks_2 0 rfl rfl)
theorem dX7_weeks_50 : decode cX7_weeks 50 = .ok (.iinc 2 1, 3) := dk_132 2 1 (dk_at dksX7_weeks_2 3 rfl rfl)
theorem dX7_weeks_53 : decode cX7_weeks 53 = .ok (.goto (-14), 3) := dk_167 255 242 (dk_at dksX7_weeks_2 6 rfl rfl)
theorem dX7_weeks_56 : decode cX7_weeks 56 = .ok (.aload_n 0, 1) := dk_42 (dk_at dksX7_weeks_2 9 rfl rfl)
theorem dX7_weeks_57 : decode cX7_weeks 57 = .ok (.getfield 148, 3) := dk_180 0 148 (dk_at dksX7_weeks_2 10 rfl rfl)
theorem dX7_weeks_60 : decode cX7_weeks 60 = .ok (.ireturn, 1) := dk_172 (dk_at dksX7_weeks_2 13 rfl rfl)
abbrev cX7_weekOn : ByteArray := prog_11_method_24_code
def yX7_weekOn : MethodName := ⟨RX7, "weekOn", "(IZ)V"⟩
def dkwX7_weekOn_4 : List UInt8 := [79, 177]
abbrev dktX7_weekOn_4 : List UInt8 := dkwX7_weekOn_4 ++ []
def dkwX7_weekOn_3 : List UInt8 := [96, 46, 4, 100, 160, 0, 8, 42, 27, 182, 0, 158, 42, 180, 0, 7, 27, 16, 41, 96, 92, 46, 4, 96]
abbrev dktX7_weekOn_3 : List UInt8 := dkwX7_weekOn_3 ++ dktX7_weekOn_4
def dkwX7_weekOn_2 : List UInt8 := [27, 16, 30, 96, 29, 96, 46, 182, 0, 154, 29, 16, 252, 159, 0, 23, 29, 42, 180, 0, 7, 27, 16, 40]
abbrev dktX7_weekOn_2 : List UInt8 := dkwX7_weekOn_2 ++ dktX7_weekOn_3
def dkwX7_weekOn_1 : List UInt8 := [159, 0, 34, 28, 154, 0, 30, 42, 27, 42, 180, 0, 7, 27, 16, 20, 96, 29, 96, 46, 42, 180, 0, 7]
abbrev dktX7_weekOn_1 : List UInt8 := dkwX7_weekOn_1 ++ dktX7_weekOn_2
def dkwX7_weekOn_0 : List UInt8 := [42, 27, 182, 0, 151, 62, 42, 16, 252, 181, 0, 142, 29, 16, 252, 159, 0, 42, 29, 42, 180, 0, 25]
abbrev dktX7_weekOn_0 : List UInt8 := dkwX7_weekOn_0 ++ dktX7_weekOn_1
theorem dksX7_weekOn_0 : cX7_weekOn.data.toList.drop 0 = dktX7_weekOn_0 := by decide +kernel
theorem dksX7_weekOn_1 : cX7_weekOn.data.toList.drop 23 = dktX7_weekOn_1 := dk_seg dksX7_weekOn_0 23 rfl rfl
theorem dksX7_weekOn_2 : cX7_weekOn.data.toList.drop 47 = dktX7_weekOn_2 := dk_seg dksX7_weekOn_1 24 rfl rfl
theorem dksX7_weekOn_3 : cX7_weekOn.data.toList.drop 71 = dktX7_weekOn_3 := dk_seg dksX7_weekOn_2 24 rfl rfl
theorem dksX7_weekOn_4 : cX7_weekOn.data.toList.drop 95 = dktX7_weekOn_4 := dk_seg dksX7_weekOn_3 24 rfl rfl
theorem dX7_weekOn_0 : decode cX7_weekOn 0 = .ok (.aload_n 0, 1) := dk_42 (dk_at dksX7_weekOn_0 0 rfl rfl)
theorem dX7_weekOn_1 : decode cX7_weekOn 1 = .ok (.iload_n 1, 1) := dk_27 (dk_at dksX7_weekOn_0 1 rfl rfl)
theorem dX7_weekOn_2 : decode cX7_weekOn 2 = .ok (.invokevirtual 151, 3) := dk_182 0 151 (dk_at dksX7_weekOn_0 2 rfl rfl)
theorem dX7_weekOn_5 : decode cX7_weekOn 5 = .ok (.istore_n 3, 1) := dk_62 (dk_at dksX7_weekOn_0 5 rfl rfl)
theorem dX7_weekOn_6 : decode cX7_weekOn 6 = .ok (.aload_n 0, 1) := dk_42 (dk_at dksX7_weekOn_0 6 rfl rfl)
theorem dX7_weekOn_7 : decode cX7_weekOn 7 = .ok (.bipush (-4), 2) := dk_16 252 (dk_at dksX7_weekOn_0 7 rfl rfl)
theorem dX7_weekOn_9 : decode cX7_weekOn 9 = .ok (.putfield 142, 3) := dk_181 0 142 (dk_at dksX7_weekOn_0 9 rfl rfl)
theorem dX7_weekOn_12 : decode cX7_weekOn 12 = .ok (.iload_n 3, 1) := dk_29 (dk_at dksX7_weekOn_0 12 rfl rfl)
theorem dX7_weekOn_13 : decode cX7_weekOn 13 = .ok (.bipush (-4), 2) := dk_16 252 (dk_at dksX7_weekOn_0 13 rfl rfl)
theorem dX7_weekOn_15 : decode cX7_weekOn 15 = .ok (.if_icmp .eq 42, 3) := dk_159 0 42 (dk_at dksX7_weekOn_0 15 rfl rfl)
theorem dX7_weekOn_18 : decode cX7_weekOn 18 = .ok (.iload_n 3, 1) := dk_29 (dk_at dksX7_weekOn_0 18 rfl rfl)
theorem dX7_weekOn_19 : decode cX7_weekOn 19 = .ok (.aload_n 0, 1) := dk_42 (dk_at dksX7_weekOn_0 19 rfl rfl)
theorem dX7_weekOn_20 : decode cX7_weekOn 20 = .ok (.getfield 25, 3) := dk_180 0 25 (dk_at dksX7_weekOn_0 20 rfl rfl)
theorem dX7_weekOn_23 : decode cX7_weekOn 23 = .ok (.if_icmp .eq 34, 3) := dk_159 0 34 (dk_at dksX7_weekOn_1 0 rfl rfl)
theorem dX7_weekOn_26 : decode cX7_weekOn 26 = .ok (.iload_n 2, 1) := dk_28 (dk_at dksX7_weekOn_1 3 rfl rfl)
theorem dX7_weekOn_27 : decode cX7_weekOn 27 = .ok (.ifCond .ne 30, 3) := dk_154 0 30 (dk_at dksX7_weekOn_1 4 rfl rfl)
theorem dX7_weekOn_30 : decode cX7_weekOn 30 = .ok (.aload_n 0, 1) := dk_42 (dk_at dksX7_weekOn_1 7 rfl rfl)
theorem dX7_weekOn_31 : decode cX7_weekOn 31 = .ok (.iload_n 1, 1) := dk_27 (dk_at dksX7_weekOn_1 8 rfl rfl)
theorem dX7_weekOn_32 : decode cX7_weekOn 32 = .ok (.aload_n 0, 1) := dk_42 (dk_at dksX7_weekOn_1 9 rfl rfl)
theorem dX7_weekOn_33 : decode cX7_weekOn 33 = .ok (.getfield 7, 3) := dk_180 0 7 (dk_at dksX7_weekOn_1 10 rfl rfl)
theorem dX7_weekOn_36 : decode cX7_weekOn 36 = .ok (.iload_n 1, 1) := dk_27 (dk_at dksX7_weekOn_1 13 rfl rfl)
theorem dX7_weekOn_37 : decode cX7_weekOn 37 = .ok (.bipush 20, 2) := dk_16 20 (dk_at dksX7_weekOn_1 14 rfl rfl)
theorem dX7_weekOn_39 : decode cX7_weekOn 39 = .ok (.iadd, 1) := dk_96 (dk_at dksX7_weekOn_1 16 rfl rfl)
theorem dX7_weekOn_40 : decode cX7_weekOn 40 = .ok (.iload_n 3, 1) := dk_29 (dk_at dksX7_weekOn_1 17 rfl rfl)
theorem dX7_weekOn_41 : decode cX7_weekOn 41 = .ok (.iadd, 1) := dk_96 (dk_at dksX7_weekOn_1 18 rfl rfl)
theorem dX7_weekOn_42 : decode cX7_weekOn 42 = .ok (.iaload, 1) := dk_46 (dk_at dksX7_weekOn_1 19 rfl rfl)
theorem dX7_weekOn_43 : decode cX7_weekOn 43 = .ok (.aload_n 0, 1) := dk_42 (dk_at dksX7_weekOn_1 20 rfl rfl)
theorem dX7_weekOn_44 : decode cX7_weekOn 44 = .ok (.getfield 7, 3) := dk_180 0 7 (dk_at dksX7_weekOn_1 21 rfl rfl)
theorem dX7_weekOn_47 : decode cX7_weekOn 47 = .ok (.iload_n 1, 1) := dk_27 (dk_at dksX7_weekOn_2 0 rfl rfl)
theorem dX7_weekOn_48 : decode cX7_weekOn 48 = .ok (.bipush 30, 2) := dk_16 30 (dk_at dksX7_weekOn_2 1 rfl rfl)
theorem dX7_weekOn_50 : decode cX7_weekOn 50 = .ok (.iadd, 1) := dk_96 (dk_at dksX7_weekOn_2 3 rfl rfl)
theorem dX7_weekOn_51 : decode cX7_weekOn 51 = .ok (.iload_n 3, 1) := dk_29 (dk_at dksX7_weekOn_2 4 rfl rfl)
theorem dX7_weekOn_52 : decode cX7_weekOn 52 = .ok (.iadd, 1) := dk_96 (dk_at dksX7_weekOn_2 5 rfl rfl)
theorem dX7_weekOn_53 : decode cX7_weekOn 53 = .ok (.iaload, 1) := dk_46 (dk_at dksX7_weekOn_2 6 rfl rfl)
theorem dX7_weekOn_54 : decode cX7_weekOn 54 = .ok (.invokevirtual 154, 3) := dk_182 0 154 (dk_at dksX7_weekOn_2 7 rfl rfl)
theorem dX7_weekOn_57 : decode cX7_weekOn 57 = .ok (.iload_n 3, 1) := dk_29 (dk_at dksX7_weekOn_2 10 rfl rfl)
theorem dX7_weekOn_58 : decode cX7_weekOn 58 = .ok (.bipush (-4), 2) := dk_16 252 (dk_at dksX7_weekOn_2 11 rfl rfl)
theorem dX7_weekOn_60 : decode cX7_weekOn 60 = .ok (.if_icmp .eq 23, 3) := dk_159 0 23 (dk_at dksX7_weekOn_2 13 rfl rfl)
theorem dX7_weekOn_63 : decode cX7_weekOn 63 = .ok (.iload_n 3, 1) := dk_29 (dk_at dksX7_weekOn_2 16 rfl rfl)
theorem dX7_weekOn_64 : decode cX7_weekOn 64 = .ok (.aload_n 0, 1) := dk_42 (dk_at dksX7_weekOn_2 17 rfl rfl)
theorem dX7_weekOn_65 : decode cX7_weekOn 65 = .ok (.getfield 7, 3) := dk_180 0 7 (dk_at dksX7_weekOn_2 18 rfl rfl)
theorem dX7_weekOn_68 : decode cX7_weekOn 68 = .ok (.iload_n 1, 1) := dk_27 (dk_at dksX7_weekOn_2 21 rfl rfl)
theorem dX7_weekOn_69 : decode cX7_weekOn 69 = .ok (.bipush 40, 2) := dk_16 40 (dk_at dksX7_weekOn_2 22 rfl rfl)
theorem dX7_weekOn_71 : decode cX7_weekOn 71 = .ok (.iadd, 1) := dk_96 (dk_at dksX7_weekOn_3 0 rfl rfl)
theorem dX7_weekOn_72 : decode cX7_weekOn 72 = .ok (.iaload, 1) := dk_46 (dk_at dksX7_weekOn_3 1 rfl rfl)
theorem dX7_weekOn_73 : decode cX7_weekOn 73 = .ok (.iconst 1, 1) := dk_4 (dk_at dksX7_weekOn_3 2 rfl rfl)
theorem dX7_weekOn_74 : decode cX7_weekOn 74 = .ok (.isub, 1) := dk_100 (dk_at dksX7_weekOn_3 3 rfl rfl)
theorem dX7_weekOn_75 : decode cX7_weekOn 75 = .ok (.if_icmp .ne 8, 3) := dk_160 0 8 (dk_at dksX7_weekOn_3 4 rfl rfl)
theorem dX7_weekOn_78 : decode cX7_weekOn 78 = .ok (.aload_n 0, 1) := dk_42 (dk_at dksX7_weekOn_3 7 rfl rfl)
theorem dX7_weekOn_79 : decode cX7_weekOn 79 = .ok (.iload_n 1, 1) := dk_27 (dk_at dksX7_weekOn_3 8 rfl rfl)
theorem dX7_weekOn_80 : decode cX7_weekOn 80 = .ok (.invokevirtual 158, 3) := dk_182 0 158 (dk_at dksX7_weekOn_3 9 rfl rfl)
theorem dX7_weekOn_83 : decode cX7_weekOn 83 = .ok (.aload_n 0, 1) := dk_42 (dk_at dksX7_weekOn_3 12 rfl rfl)
theorem dX7_weekOn_84 : decode cX7_weekOn 84 = .ok (.getfield 7, 3) := dk_180 0 7 (dk_at dksX7_weekOn_3 13 rfl rfl)
theorem dX7_weekOn_87 : decode cX7_weekOn 87 = .ok (.iload_n 1, 1) := dk_27 (dk_at dksX7_weekOn_3 16 rfl rfl)
theorem dX7_weekOn_88 : decode cX7_weekOn 88 = .ok (.bipush 41, 2) := dk_16 41 (dk_at dksX7_weekOn_3 17 rfl rfl)
theorem dX7_weekOn_90 : decode cX7_weekOn 90 = .ok (.iadd, 1) := dk_96 (dk_at dksX7_weekOn_3 19 rfl rfl)
theorem dX7_weekOn_91 : decode cX7_weekOn 91 = .ok (.dup2, 1) := dk_92 (dk_at dksX7_weekOn_3 20 rfl rfl)
theorem dX7_weekOn_92 : decode cX7_weekOn 92 = .ok (.iaload, 1) := dk_46 (dk_at dksX7_weekOn_3 21 rfl rfl)
theorem dX7_weekOn_93 : decode cX7_weekOn 93 = .ok (.iconst 1, 1) := dk_4 (dk_at dksX7_weekOn_3 22 rfl rfl)
theorem dX7_weekOn_94 : decode cX7_weekOn 94 = .ok (.iadd, 1) := dk_96 (dk_at dksX7_weekOn_3 23 rfl rfl)
theorem dX7_weekOn_95 : decode cX7_weekOn 95 = .ok (.iastore, 1) := dk_79 (dk_at dksX7_weekOn_4 0 rfl rfl)
theorem dX7_weekOn_96 : decode cX7_weekOn 96 = .ok (.return_, 1) := dk_177 (dk_at dksX7_weekOn_4 1 rfl rfl)
abbrev cX7_playedOn : ByteArray := prog_11_method_21_code
def yX7_playedOn : MethodName := ⟨RX7, "playedOn", "(III)V"⟩
def dkwX7_playedOn_8 : List UInt8 := [158, 0, 7, 4, 167, 0, 4, 3, 100, 79, 42, 89, 180, 0, 148, 4, 96, 181, 0, 148, 177]
abbrev dktX7_playedOn_8 : List UInt8 := dkwX7_playedOn_8 ++ []
def dkwX7_playedOn_7 : List UInt8 := [180, 0, 7, 27, 8, 96, 21, 4, 96, 92, 46, 42, 180, 0, 7, 27, 8, 96, 21, 4, 96, 46]
abbrev dktX7_playedOn_7 : List UInt8 := dkwX7_playedOn_7 ++ dktX7_playedOn_8
def dkwX7_playedOn_6 : List UInt8 := [8, 96, 42, 180, 0, 142, 96, 21, 6, 16, 20, 164, 0, 8, 16, 20, 167, 0, 5, 21, 6, 79, 42]
abbrev dktX7_playedOn_6 : List UInt8 := dkwX7_playedOn_6 ++ dktX7_playedOn_7
def dkwX7_playedOn_5 : List UInt8 := [96, 42, 180, 0, 142, 96, 46, 16, 99, 162, 0, 7, 4, 167, 0, 4, 3, 96, 79, 42, 180, 0, 7, 27]
abbrev dktX7_playedOn_5 : List UInt8 := dkwX7_playedOn_5 ++ dktX7_playedOn_6
def dkwX7_playedOn_4 : List UInt8 := [54, 6, 42, 180, 0, 7, 27, 16, 10, 96, 42, 180, 0, 142, 96, 92, 46, 42, 180, 0, 7, 27, 16, 10]
abbrev dktX7_playedOn_4 : List UInt8 := dkwX7_playedOn_4 ++ dktX7_playedOn_5
def dkwX7_playedOn_3 : List UInt8 := [96, 46, 21, 5, 4, 160, 0, 7, 5, 167, 0, 14, 21, 5, 6, 160, 0, 7, 3, 167, 0, 4, 4, 96]
abbrev dktX7_playedOn_3 : List UInt8 := dkwX7_playedOn_3 ++ dktX7_playedOn_4
def dkwX7_playedOn_2 : List UInt8 := [42, 180, 0, 7, 27, 42, 180, 0, 142, 96, 46, 54, 5, 42, 180, 0, 7, 27, 8, 96, 42, 180, 0, 142]
abbrev dktX7_playedOn_2 : List UInt8 := dkwX7_playedOn_2 ++ dktX7_playedOn_3
def dkwX7_playedOn_1 : List UInt8 := [180, 0, 145, 4, 96, 181, 0, 145, 177, 42, 180, 0, 142, 28, 160, 0, 7, 29, 167, 0, 4, 28, 54, 4]
abbrev dktX7_playedOn_1 : List UInt8 := dkwX7_playedOn_1 ++ dktX7_playedOn_2
def dkwX7_playedOn_0 : List UInt8 := [42, 42, 27, 28, 29, 182, 0, 138, 181, 0, 142, 42, 180, 0, 142, 16, 252, 160, 0, 14, 42, 89]
abbrev dktX7_playedOn_0 : List UInt8 := dkwX7_playedOn_0 ++ dktX7_playedOn_1
theorem dksX7_playedOn_0 : cX7_playedOn.data.toList.drop 0 = dktX7_playedOn_0 := by decide +kernel
theorem dksX7_playedOn_1 : cX7_playedOn.data.toList.drop 22 = dktX7_playedOn_1 := dk_seg dksX7_playedOn_0 22 rfl rfl
theorem dksX7_playedOn_2 : cX7_playedOn.data.toList.drop 46 = dktX7_playedOn_2 := dk_seg dksX7_playedOn_1 24 rfl rfl
theorem dksX7_playedOn_3 : cX7_playedOn.data.toList.drop 70 = dktX7_playedOn_3 := dk_seg dksX7_playedOn_2 24 rfl rfl
theorem dksX7_playedOn_4 : cX7_playedOn.data.toList.drop 94 = dktX7_playedOn_4 := dk_seg dksX7_playedOn_3 24 rfl rfl
theorem dksX7_playedOn_5 : cX7_playedOn.data.toList.drop 118 = dktX7_playedOn_5 := dk_seg dksX7_playedOn_4 24 rfl rfl
theorem dksX7_playedOn_6 : cX7_playedOn.data.toList.drop 142 = dktX7_playedOn_6 := dk_seg dksX7_playedOn_5 24 rfl rfl
theorem dksX7_playedOn_7 : cX7_playedOn.data.toList.drop 165 = dktX7_playedOn_7 := dk_seg dksX7_playedOn_6 23 rfl rfl
theorem dksX7_playedOn_8 : cX7_playedOn.data.toList.drop 187 = dktX7_playedOn_8 := dk_seg dksX7_playedOn_7 22 rfl rfl
theorem dX7_playedOn_0 : decode cX7_playedOn 0 = .ok (.aload_n 0, 1) := dk_42 (dk_at dksX7_playedOn_0 0 rfl rfl)
theorem dX7_playedOn_1 : decode cX7_playedOn 1 = .ok (.aload_n 0, 1) := dk_42 (dk_at dksX7_playedOn_0 1 rfl rfl)
theorem dX7_playedOn_2 : decode cX7_playedOn 2 = .ok (.iload_n 1, 1) := dk_27 (dk_at dksX7_playedOn_0 2 rfl rfl)
theorem dX7_playedOn_3 : decode cX7_playedOn 3 = .ok (.iload_n 2, 1) := dk_28 (dk_at dksX7_playedOn_0 3 rfl rfl)
theorem dX7_playedOn_4 : decode cX7_playedOn 4 = .ok (.iload_n 3, 1) := dk_29 (dk_at dksX7_playedOn_0 4 rfl rfl)
theorem dX7_playedOn_5 : decode cX7_playedOn 5 = .ok (.invokevirtual 138, 3) := dk_182 0 138 (dk_at dksX7_playedOn_0 5 rfl rfl)
theorem dX7_playedOn_8 : decode cX7_playedOn 8 = .ok (.putfield 142, 3) := dk_181 0 142 (dk_at dksX7_playedOn_0 8 rfl rfl)
theorem dX7_playedOn_11 : decode cX7_playedOn 11 = .ok (.aload_n 0, 1) := dk_42 (dk_at dksX7_playedOn_0 11 rfl rfl)
theorem dX7_playedOn_12 : decode cX7_playedOn 12 = .ok (.getfield 142, 3) := dk_180 0 142 (dk_at dksX7_playedOn_0 12 rfl rfl)
theorem dX7_playedOn_15 : decode cX7_playedOn 15 = .ok (.bipush (-4), 2) := dk_16 252 (dk_at dksX7_playedOn_0 15 rfl rfl)
theorem dX7_playedOn_17 : decode cX7_playedOn 17 = .ok (.if_icmp .ne 14, 3) := dk_160 0 14 (dk_at dksX7_playedOn_0 17 rfl rfl)
theorem dX7_playedOn_20 : decode cX7_playedOn 20 = .ok (.aload_n 0, 1) := dk_42 (dk_at dksX7_playedOn_0 20 rfl rfl)
theorem dX7_playedOn_21 : decode cX7_playedOn 21 = .ok (.dup, 1) := dk_89 (dk_at dksX7_playedOn_0 21 rfl rfl)
theorem dX7_playedOn_22 : decode cX7_playedOn 22 = .ok (.getfield 145, 3) := dk_180 0 145 (dk_at dksX7_playedOn_1 0 rfl rfl)
theorem dX7_playedOn_25 : decode cX7_playedOn 25 = .ok (.iconst 1, 1) := dk_4 (dk_at dksX7_playedOn_1 3 rfl rfl)
theorem dX7_playedOn_26 : decode cX7_playedOn 26 = .ok (.iadd, 1) := dk_96 (dk_at dksX7_playedOn_1 4 rfl rfl)
theorem dX7_playedOn_27 : decode cX7_playedOn 27 = .ok (.putfield 145, 3) := dk_181 0 145 (dk_at dksX7_playedOn_1 5 rfl rfl)
theorem dX7_playedOn_30 : decode cX7_playedOn 30 = .ok (.return_, 1) := dk_177 (dk_at dksX7_playedOn_1 8 rfl rfl)
theorem dX7_playedOn_31 : decode cX7_playedOn 31 = .ok (.aload_n 0, 1) := dk_42 (dk_at dksX7_playedOn_1 9 rfl rfl)
theorem dX7_playedOn_32 : decode cX7_playedOn 32 = .ok (.getfield 142, 3) := dk_180 0 142 (dk_at dksX7_playedOn_1 10 rfl rfl)
theorem dX7_playedOn_35 : decode cX7_playedOn 35 = .ok (.iload_n 2, 1) := dk_28 (dk_at dksX7_playedOn_1 13 rfl rfl)
theorem dX7_playedOn_36 : decode cX7_playedOn 36 = .ok (.if_icmp .ne 7, 3) := dk_160 0 7 (dk_at dksX7_playedOn_1 14 rfl rfl)
theorem dX7_playedOn_39 : decode cX7_playedOn 39 = .ok (.iload_n 3, 1) := dk_29 (dk_at dksX7_playedOn_1 17 rfl rfl)
theorem dX7_playedOn_40 : decode cX7_playedOn 40 = .ok (.goto 4, 3) := dk_167 0 4 (dk_at dksX7_playedOn_1 18 rfl rfl)
theorem dX7_playedOn_43 : decode cX7_playedOn 43 = .ok (.iload_n 2, 1) := dk_28 (dk_at dksX7_playedOn_1 21 rfl rfl)
theorem dX7_playedOn_44 : decode cX7_playedOn 44 = .ok (.istore 4, 2) := dk_54 4 (dk_at dksX7_playedOn_1 22 rfl rfl)
theorem dX7_playedOn_46 : decode cX7_playedOn 46 = .ok (.aload_n 0, 1) := dk_42 (dk_at dksX7_playedOn_2 0 rfl rfl)
theorem dX7_playedOn_47 : decode cX7_playedOn 47 = .ok (.getfield 7, 3) := dk_180 0 7 (dk_at dksX7_playedOn_2 1 rfl rfl)
theorem dX7_playedOn_50 : decode cX7_playedOn 50 = .ok (.iload_n 1, 1) := dk_27 (dk_at dksX7_playedOn_2 4 rfl rfl)
theorem dX7_playedOn_51 : decode cX7_playedOn 51 = .ok (.aload_n 0, 1) := dk_42 (dk_at dksX7_playedOn_2 5 rfl rfl)
theorem dX7_playedOn_52 : decode cX7_playedOn 52 = .ok (.getfield 142, 3) := dk_180 0 142 (dk_at dksX7_playedOn_2 6 rfl rfl)
theorem dX7_playedOn_55 : decode cX7_playedOn 55 = .ok (.iadd, 1) := dk_96 (dk_at dksX7_playedOn_2 9 rfl rfl)
theorem dX7_playedOn_56 : decode cX7_playedOn 56 = .ok (.iaload, 1) := dk_46 (dk_at dksX7_playedOn_2 10 rfl rfl)
theorem dX7_playedOn_57 : decode cX7_playedOn 57 = .ok (.istore 5, 2) := dk_54 5 (dk_at dksX7_playedOn_2 11 rfl rfl)
theorem dX7_playedOn_59 : decode cX7_playedOn 59 = .ok (.aload_n 0, 1) := dk_42 (dk_at dksX7_playedOn_2 13 rfl rfl)
theorem dX7_playedOn_60 : decode cX7_playedOn 60 = .ok (.getfield 7, 3) := dk_180 0 7 (dk_at dksX7_playedOn_2 14 rfl rfl)
theorem dX7_playedOn_63 : decode cX7_playedOn 63 = .ok (.iload_n 1, 1) := dk_27 (dk_at dksX7_playedOn_2 17 rfl rfl)
theorem dX7_playedOn_64 : decode cX7_playedOn 64 = .ok (.iconst 5, 1) := dk_8 (dk_at dksX7_playedOn_2 18 rfl rfl)
theorem dX7_playedOn_65 : decode cX7_playedOn 65 = .ok (.iadd, 1) := dk_96 (dk_at dksX7_playedOn_2 19 rfl rfl)
theorem dX7_playedOn_66 : decode cX7_playedOn 66 = .ok (.aload_n 0, 1) := dk_42 (dk_at dksX7_playedOn_2 20 rfl rfl)
theorem dX7_playedOn_67 : decode cX7_playedOn 67 = .ok (.getfield 142, 3) := dk_180 0 142 (dk_at dksX7_playedOn_2 21 rfl rfl)
theorem dX7_playedOn_70 : decode cX7_playedOn 70 = .ok (.iadd, 1) := dk_96 (dk_at dksX7_playedOn_3 0 rfl rfl)
theorem dX7_playedOn_71 : decode cX7_playedOn 71 = .ok (.iaload, 1) := dk_46 (dk_at dksX7_playedOn_3 1 rfl rfl)
theorem dX7_playedOn_72 : decode cX7_playedOn 72 = .ok (.iload 5, 2) := dk_21 5 (dk_at dksX7_playedOn_3 2 rfl rfl)
theorem dX7_playedOn_74 : decode cX7_playedOn 74 = .ok (.iconst 1, 1) := dk_4 (dk_at dksX7_playedOn_3 4 rfl rfl)
theorem dX7_playedOn_75 : decode cX7_playedOn 75 = .ok (.if_icmp .ne 7, 3) := dk_160 0 7 (dk_at dksX7_playedOn_3 5 rfl rfl)
theorem dX7_playedOn_78 : decode cX7_playedOn 78 = .ok (.iconst 2, 1) := dk_5 (dk_at dksX7_playedOn_3 8 rfl rfl)
theorem dX7_playedOn_79 : decode cX7_playedOn 79 = .ok (.goto 14, 3) := dk_167 0 14 (dk_at dksX7_playedOn_3 9 rfl rfl)
theorem dX7_playedOn_82 : decode cX7_playedOn 82 = .ok (.iload 5, 2) := dk_21 5 (dk_at dksX7_playedOn_3 12 rfl rfl)
theorem dX7_playedOn_84 : decode cX7_playedOn 84 = .ok (.iconst 3, 1) := dk_6 (dk_at dksX7_playedOn_3 14 rfl rfl)
theorem dX7_playedOn_85 : decode cX7_playedOn 85 = .ok (.if_icmp .ne 7, 3) := dk_160 0 7 (dk_at dksX7_playedOn_3 15 rfl rfl)
theorem dX7_playedOn_88 : decode cX7_playedOn 88 = .ok (.iconst 0, 1) := dk_3 (dk_at dksX7_playedOn_3 18 rfl rfl)
theorem dX7_playedOn_89 : decode cX7_playedOn 89 = .ok (.goto 4, 3) := dk_167 0 4 (dk_at dksX7_playedOn_3 19 rfl rfl)
theorem dX7_playedOn_92 : decode cX7_playedOn 92 = .ok (.iconst 1, 1) := dk_4 (dk_at dksX7_playedOn_3 22 rfl rfl)
theorem dX7_playedOn_93 : decode cX7_playedOn 93 = .ok (.iadd, 1) := dk_96 (dk_at dksX7_playedOn_3 23 rfl rfl)
theorem dX7_playedOn_94 : decode cX7_playedOn 94 = .ok (.istore 6, 2) := dk_54 6 (dk_at dksX7_playedOn_4 0 rfl rfl)
theorem dX7_playedOn_96 : decode cX7_playedOn 96 = .ok (.aload_n 0, 1) := dk_42 (dk_at dksX7_playedOn_4 2 rfl rfl)
theorem dX7_playedOn_97 : decode cX7_playedOn 97 = .ok (.getfield 7, 3) := dk_180 0 7 (dk_at dksX7_playedOn_4 3 rfl rfl)
theorem dX7_playedOn_100 : decode cX7_playedOn 100 = .ok (.iload_n 1, 1) := dk_27 (dk_at dksX7_playedOn_4 6 rfl rfl)
theorem dX7_playedOn_101 : decode cX7_playedOn 101 = .ok (.bipush 10, 2) := dk_16 10 (dk_at dksX7_playedOn_4 7 rfl rfl)
theorem dX7_playedOn_103 : decode cX7_playedOn 103 = .ok (.iadd, 1) := dk_96 (dk_at dksX7_playedOn_4 9 rfl rfl)
theorem dX7_playedOn_104 : decode cX7_playedOn 104 = .ok (.aload_n 0, 1) := dk_42 (dk_at dksX7_playedOn_4 10 rfl rfl)
theorem dX7_playedOn_105 : decode cX7_playedOn 105 = .ok (.getfield 142, 3) := dk_180 0 142 (dk_at dksX7_playedOn_4 11 rfl rfl)
theorem dX7_playedOn_108 : decode cX7_playedOn 108 = .ok (.iadd, 1) := dk_96 (dk_at dksX7_playedOn_4 14 rfl rfl)
theorem dX7_playedOn_109 : decode cX7_playedOn 109 = .ok (.dup2, 1) := dk_92 (dk_at dksX7_playedOn_4 15 rfl rfl)
theorem dX7_playedOn_110 : decode cX7_playedOn 110 = .ok (.iaload, 1) := dk_46 (dk_at dksX7_playedOn_4 16 rfl rfl)
theorem dX7_playedOn_111 : decode cX7_playedOn 111 = .ok (.aload_n 0, 1) := dk_42 (dk_at dksX7_playedOn_4 17 rfl rfl)
theorem dX7_playedOn_112 : decode cX7_playedOn 112 = .ok (.getfield 7, 3) := dk_180 0 7 (dk_at dksX7_playedOn_4 18 rfl rfl)
theorem dX7_playedOn_115 : decode cX7_playedOn 115 = .ok (.iload_n 1, 1) := dk_27 (dk_at dksX7_playedOn_4 21 rfl rfl)
theorem dX7_playedOn_116 : decode cX7_playedOn 116 = .ok (.bipush 10, 2) := dk_16 10 (dk_at dksX7_playedOn_4 22 rfl rfl)
theorem dX7_playedOn_118 : decode cX7_playedOn 118 = .ok (.iadd, 1) := dk_96 (dk_at dksX7_playedOn_5 0 rfl rfl)
theorem dX7_playedOn_119 : decode cX7_playedOn 119 = .ok (.aload_n 0, 1) := dk_42 (dk_at dksX7_playedOn_5 1 rfl rfl)
theorem dX7_playedOn_120 : decode cX7_playedOn 120 = .ok (.getfield 142, 3) := dk_180 0 142 (dk_at dksX7_playedOn_5 2 rfl rfl)
theorem dX7_playedOn_123 : decode cX7_playedOn 123 = .ok (.iadd, 1) := dk_96 (dk_at dksX7_playedOn_5 5 rfl rfl)
theorem dX7_playedOn_124 : decode cX7_playedOn 124 = .ok (.iaload, 1) := dk_46 (dk_at dksX7_playedOn_5 6 rfl rfl)
theorem dX7_playedOn_125 : decode cX7_playedOn 125 = .ok (.bipush 99, 2) := dk_16 99 (dk_at dksX7_playedOn_5 7 rfl rfl)
theorem dX7_playedOn_127 : decode cX7_playedOn 127 = .ok (.if_icmp .ge 7, 3) := dk_162 0 7 (dk_at dksX7_playedOn_5 9 rfl rfl)
theorem dX7_playedOn_130 : decode cX7_playedOn 130 = .ok (.iconst 1, 1) := dk_4 (dk_at dksX7_playedOn_5 12 rfl rfl)
theorem dX7_playedOn_131 : decode cX7_playedOn 131 = .ok (.goto 4, 3) := dk_167 0 4 (dk_at dksX7_playedOn_5 13 rfl rfl)
theorem dX7_playedOn_134 : decode cX7_playedOn 134 = .ok (.iconst 0, 1) := dk_3 (dk_at dksX7_playedOn_5 16 rfl rfl)
theorem dX7_playedOn_135 : decode cX7_playedOn 135 = .ok (.iadd, 1) := dk_96 (dk_at dksX7_playedOn_5 17 rfl rfl)
theorem dX7_playedOn_136 : decode cX7_playedOn 136 = .ok (.iastore, 1) := dk_79 (dk_at dksX7_playedOn_5 18 rfl rfl)
theorem dX7_playedOn_137 : decode cX7_playedOn 137 = .ok (.aload_n 0, 1) := dk_42 (dk_at dksX7_playedOn_5 19 rfl rfl)
theorem dX7_playedOn_138 : decode cX7_playedOn 138 = .ok (.getfield 7, 3) := dk_180 0 7 (dk_at dksX7_playedOn_5 20 rfl rfl)
theorem dX7_playedOn_141 : decode cX7_playedOn 141 = .ok (.iload_n 1, 1) := dk_27 (dk_at dksX7_playedOn_5 23 rfl rfl)
theorem dX7_playedOn_142 : decode cX7_playedOn 142 = .ok (.iconst 5, 1) := dk_8 (dk_at dksX7_playedOn_6 0 rfl rfl)
theorem dX7_playedOn_143 : decode cX7_playedOn 143 = .ok (.iadd, 1) := dk_96 (dk_at dksX7_playedOn_6 1 rfl rfl)
theorem dX7_playedOn_144 : decode cX7_playedOn 144 = .ok (.aload_n 0, 1) := dk_42 (dk_at dksX7_playedOn_6 2 rfl rfl)
theorem dX7_playedOn_145 : decode cX7_playedOn 145 = .ok (.getfield 142, 3) := dk_180 0 142 (dk_at dksX7_playedOn_6 3 rfl rfl)
theorem dX7_playedOn_148 : decode cX7_playedOn 148 = .ok (.iadd, 1) := dk_96 (dk_at dksX7_playedOn_6 6 rfl rfl)
theorem dX7_playedOn_149 : decode cX7_playedOn 149 = .ok (.iload 6, 2) := dk_21 6 (dk_at dksX7_playedOn_6 7 rfl rfl)
theorem dX7_playedOn_151 : decode cX7_playedOn 151 = .ok (.bipush 20, 2) := dk_16 20 (dk_at dksX7_playedOn_6 9 rfl rfl)
theorem dX7_playedOn_153 : decode cX7_playedOn 153 = .ok (.if_icmp .le 8, 3) := dk_164 0 8 (dk_at dksX7_playedOn_6 11 rfl rfl)
theorem dX7_playedOn_156 : decode cX7_playedOn 156 = .ok (.bipush 20, 2) := dk_16 20 (dk_at dksX7_playedOn_6 14 rfl rfl)
theorem dX7_playedOn_158 : decode cX7_playedOn 158 = .ok (.goto 5, 3) := dk_167 0 5 (dk_at dksX7_playedOn_6 16 rfl rfl)
theorem dX7_playedOn_161 : decode cX7_playedOn 161 = .ok (.iload 6, 2) := dk_21 6 (dk_at dksX7_playedOn_6 19 rfl rfl)
theorem dX7_playedOn_163 : decode cX7_playedOn 163 = .ok (.iastore, 1) := dk_79 (dk_at dksX7_playedOn_6 21 rfl rfl)
theorem dX7_playedOn_164 : decode cX7_playedOn 164 = .ok (.aload_n 0, 1) := dk_42 (dk_at dksX7_playedOn_6 22 rfl rfl)
theorem dX7_playedOn_165 : decode cX7_playedOn 165 = .ok (.getfield 7, 3) := dk_180 0 7 (dk_at dksX7_playedOn_7 0 rfl rfl)
theorem dX7_playedOn_168 : decode cX7_playedOn 168 = .ok (.iload_n 1, 1) := dk_27 (dk_at dksX7_playedOn_7 3 rfl rfl)
theorem dX7_playedOn_169 : decode cX7_playedOn 169 = .ok (.iconst 5, 1) := dk_8 (dk_at dksX7_playedOn_7 4 rfl rfl)
theorem dX7_playedOn_170 : decode cX7_playedOn 170 = .ok (.iadd, 1) := dk_96 (dk_at dksX7_playedOn_7 5 rfl rfl)
theorem dX7_playedOn_171 : decode cX7_playedOn 171 = .ok (.iload 4, 2) := dk_21 4 (dk_at dksX7_playedOn_7 6 rfl rfl)
theorem dX7_playedOn_173 : decode cX7_playedOn 173 = .ok (.iadd, 1) := dk_96 (dk_at dksX7_playedOn_7 8 rfl rfl)
theorem dX7_playedOn_174 : decode cX7_playedOn 174 = .ok (.dup2, 1) := dk_92 (dk_at dksX7_playedOn_7 9 rfl rfl)
theorem dX7_playedOn_175 : decode cX7_playedOn 175 = .ok (.iaload, 1) := dk_46 (dk_at dksX7_playedOn_7 10 rfl rfl)
theorem dX7_playedOn_176 : decode cX7_playedOn 176 = .ok (.aload_n 0, 1) := dk_42 (dk_at dksX7_playedOn_7 11 rfl rfl)
theorem dX7_playedOn_177 : decode cX7_playedOn 177 = .ok (.getfield 7, 3) := dk_180 0 7 (dk_at dksX7_playedOn_7 12 rfl rfl)
theorem dX7_playedOn_180 : decode cX7_playedOn 180 = .ok (.iload_n 1, 1) := dk_27 (dk_at dksX7_playedOn_7 15 rfl rfl)
theorem dX7_playedOn_181 : decode cX7_playedOn 181 = .ok (.iconst 5, 1) := dk_8 (dk_at dksX7_playedOn_7 16 rfl rfl)
theorem dX7_playedOn_182 : decode cX7_playedOn 182 = .ok (.iadd, 1) := dk_96 (dk_at dksX7_playedOn_7 17 rfl rfl)
theorem dX7_playedOn_183 : decode cX7_playedOn 183 = .ok (.iload 4, 2) := dk_21 4 (dk_at dksX7_playedOn_7 18 rfl rfl)
theorem dX7_playedOn_185 : decode cX7_playedOn 185 = .ok (.iadd, 1) := dk_96 (dk_at dksX7_playedOn_7 20 rfl rfl)
theorem dX7_playedOn_186 : decode cX7_playedOn 186 = .ok (.iaload, 1) := dk_46 (dk_at dksX7_playedOn_7 21 rfl rfl)
theorem dX7_playedOn_187 : decode cX7_playedOn 187 = .ok (.ifCond .le 7, 3) := dk_158 0 7 (dk_at dksX7_playedOn_8 0 rfl rfl)
theorem dX7_playedOn_190 : decode cX7_playedOn 190 = .ok (.iconst 1, 1) := dk_4 (dk_at dksX7_playedOn_8 3 rfl rfl)
theorem dX7_playedOn_191 : decode cX7_playedOn 191 = .ok (.goto 4, 3) := dk_167 0 4 (dk_at dksX7_playedOn_8 4 rfl rfl)
theorem dX7_playedOn_194 : decode cX7_playedOn 194 = .ok (.iconst 0, 1) := dk_3 (dk_at dksX7_playedOn_8 7 rfl rfl)
theorem dX7_playedOn_195 : decode cX7_playedOn 195 = .ok (.isub, 1) := dk_100 (dk_at dksX7_playedOn_8 8 rfl rfl)
theorem dX7_playedOn_196 : decode cX7_playedOn 196 = .ok (.iastore, 1) := dk_79 (dk_at dksX7_playedOn_8 9 rfl rfl)
theorem dX7_playedOn_197 : decode cX7_playedOn 197 = .ok (.aload_n 0, 1) := dk_42 (dk_at dksX7_playedOn_8 10 rfl rfl)
theorem dX7_playedOn_198 : decode cX7_playedOn 198 = .ok (.dup, 1) := dk_89 (dk_at dksX7_playedOn_8 11 rfl rfl)
theorem dX7_playedOn_199 : decode cX7_playedOn 199 = .ok (.getfield 148, 3) := dk_180 0 148 (dk_at dksX7_playedOn_8 12 rfl rfl)
theorem dX7_playedOn_202 : decode cX7_playedOn 202 = .ok (.iconst 1, 1) := dk_4 (dk_at dksX7_playedOn_8 15 rfl rfl)
theorem dX7_playedOn_203 : decode cX7_playedOn 203 = .ok (.iadd, 1) := dk_96 (dk_at dksX7_playedOn_8 16 rfl rfl)
theorem dX7_playedOn_204 : decode cX7_playedOn 204 = .ok (.putfield 148, 3) := dk_181 0 148 (dk_at dksX7_playedOn_8 17 rfl rfl)
theorem dX7_playedOn_207 : decode cX7_playedOn 207 = .ok (.return_, 1) := dk_177 (dk_at dksX7_playedOn_8 20 rfl rfl)
abbrev cX7_yearsEnd : ByteArray := prog_11_method_23_code
def yX7_yearsEnd : MethodName := ⟨RX7, "yearsEnd", "(I)V"⟩
def dkwX7_yearsEnd_3 : List UInt8 := [180, 0, 7, 27, 16, 10, 96, 28, 96, 3, 79, 132, 2, 1, 167, 255, 174, 177]
abbrev dktX7_yearsEnd_3 : List UInt8 := dkwX7_yearsEnd_3 ++ []
def dkwX7_yearsEnd_2 : List UInt8 := [180, 0, 7, 27, 16, 15, 96, 28, 96, 92, 46, 29, 153, 0, 7, 4, 167, 0, 4, 3, 96, 79, 42]
abbrev dktX7_yearsEnd_2 : List UInt8 := dkwX7_yearsEnd_2 ++ dktX7_yearsEnd_3
def dkwX7_yearsEnd_1 : List UInt8 := [42, 180, 0, 7, 27, 16, 15, 96, 28, 96, 46, 16, 99, 162, 0, 7, 4, 167, 0, 4, 3, 62, 42]
abbrev dktX7_yearsEnd_1 : List UInt8 := dkwX7_yearsEnd_1 ++ dktX7_yearsEnd_2
def dkwX7_yearsEnd_0 : List UInt8 := [3, 61, 28, 42, 180, 0, 125, 162, 0, 80, 42, 180, 0, 7, 27, 16, 10, 96, 28, 96, 46, 154, 0, 23]
abbrev dktX7_yearsEnd_0 : List UInt8 := dkwX7_yearsEnd_0 ++ dktX7_yearsEnd_1
theorem dksX7_yearsEnd_0 : cX7_yearsEnd.data.toList.drop 0 = dktX7_yearsEnd_0 := by decide +kernel
theorem dksX7_yearsEnd_1 : cX7_yearsEnd.data.toList.drop 24 = dktX7_yearsEnd_1 := dk_seg dksX7_yearsEnd_0 24 rfl rfl
theorem dksX7_yearsEnd_2 : cX7_yearsEnd.data.toList.drop 47 = dktX7_yearsEnd_2 := dk_seg dksX7_yearsEnd_1 23 rfl rfl
theorem dksX7_yearsEnd_3 : cX7_yearsEnd.data.toList.drop 70 = dktX7_yearsEnd_3 := dk_seg dksX7_yearsEnd_2 23 rfl rfl
theorem dX7_yearsEnd_0 : decode cX7_yearsEnd 0 = .ok (.iconst 0, 1) := dk_3 (dk_at dksX7_yearsEnd_0 0 rfl rfl)
theorem dX7_yearsEnd_1 : decode cX7_yearsEnd 1 = .ok (.istore_n 2, 1) := dk_61 (dk_at dksX7_yearsEnd_0 1 rfl rfl)
theorem dX7_yearsEnd_2 : decode cX7_yearsEnd 2 = .ok (.iload_n 2, 1) := dk_28 (dk_at dksX7_yearsEnd_0 2 rfl rfl)
theorem dX7_yearsEnd_3 : decode cX7_yearsEnd 3 = .ok (.aload_n 0, 1) := dk_42 (dk_at dksX7_yearsEnd_0 3 rfl rfl)
theorem dX7_yearsEnd_4 : decode cX7_yearsEnd 4 = .ok (.getfield 125, 3) := dk_180 0 125 (dk_at dksX7_yearsEnd_0 4 rfl rfl)
theorem dX7_yearsEnd_7 : decode cX7_yearsEnd 7 = .ok (.if_icmp .ge 80, 3) := dk_162 0 80 (dk_at dksX7_yearsEnd_0 7 rfl rfl)
theorem dX7_yearsEnd_10 : decode cX7_yearsEnd 10 = .ok (.aload_n 0, 1) := dk_42 (dk_at dksX7_yearsEnd_0 10 rfl rfl)
theorem dX7_yearsEnd_11 : decode cX7_yearsEnd 11 = .ok (.getfield 7, 3) := dk_180 0 7 (dk_at dksX7_yearsEnd_0 11 rfl rfl)
theorem dX7_yearsEnd_14 : decode cX7_yearsEnd 14 = .ok (.iload_n 1, 1) := dk_27 (dk_at dksX7_yearsEnd_0 14 rfl rfl)
theorem dX7_yearsEnd_15 : decode cX7_yearsEnd 15 = .ok (.bipush 10, 2) := dk_16 10 (dk_at dksX7_yearsEnd_0 15 rfl rfl)
theorem dX7_yearsEnd_17 : decode cX7_yearsEnd 17 = .ok (.iadd, 1) := dk_96 (dk_at dksX7_yearsEnd_0 17 rfl rfl)
theorem dX7_yearsEnd_18 : decode cX7_yearsEnd 18 = .ok (.iload_n 2, 1) := dk_28 (dk_at dksX7_yearsEnd_0 18 rfl rfl)
theorem dX7_yearsEnd_19 : decode cX7_yearsEnd 19 = .ok (.iadd, 1) := dk_96 (dk_at dksX7_yearsEnd_0 19 rfl rfl)
theorem dX7_yearsEnd_20 : decode cX7_yearsEnd 20 = .ok (.iaload, 1) := dk_46 (dk_at dksX7_yearsEnd_0 20 rfl rfl)
theorem dX7_yearsEnd_21 : decode cX7_yearsEnd 21 = .ok (.ifCond .ne 23, 3) := dk_154 0 23 (dk_at dksX7_yearsEnd_0 21 rfl rfl)
theorem dX7_yearsEnd_24 : decode cX7_yearsEnd 24 = .ok (.aload_n 0, 1) := dk_42 (dk_at dksX7_yearsEnd_1 0 rfl rfl)
theorem dX7_yearsEnd_25 : decode cX7_yearsEnd 25 = .ok (.getfield 7, 3) := dk_180 0 7 (dk_at dksX7_yearsEnd_1 1 rfl rfl)
theorem dX7_yearsEnd_28 : decode cX7_yearsEnd 28 = .ok (.iload_n 1, 1) := dk_27 (dk_at dksX7_yearsEnd_1 4 rfl rfl)
theorem dX7_yearsEnd_29 : decode cX7_yearsEnd 29 = .ok (.bipush 15, 2) := dk_16 15 (dk_at dksX7_yearsEnd_1 5 rfl rfl)
theorem dX7_yearsEnd_31 : decode cX7_yearsEnd 31 = .ok (.iadd, 1) := dk_96 (dk_at dksX7_yearsEnd_1 7 rfl rfl)
theorem dX7_yearsEnd_32 : decode cX7_yearsEnd 32 = .ok (.iload_n 2, 1) := dk_28 (dk_at dksX7_yearsEnd_1 8 rfl rfl)
theorem dX7_yearsEnd_33 : decode cX7_yearsEnd 33 = .ok (.iadd, 1) := dk_96 (dk_at dksX7_yearsEnd_1 9 rfl rfl)
theorem dX7_yearsEnd_34 : decode cX7_yearsEnd 34 = .ok (.iaload, 1) := dk_46 (dk_at dksX7_yearsEnd_1 10 rfl rfl)
theorem dX7_yearsEnd_35 : decode cX7_yearsEnd 35 = .ok (.bipush 99, 2) := dk_16 99 (dk_at dksX7_yearsEnd_1 11 rfl rfl)
theorem dX7_yearsEnd_37 : decode cX7_yearsEnd 37 = .ok (.if_icmp .ge 7, 3) := dk_162 0 7 (dk_at dksX7_yearsEnd_1 13 rfl rfl)
theorem dX7_yearsEnd_40 : decode cX7_yearsEnd 40 = .ok (.iconst 1, 1) := dk_4 (dk_at dksX7_yearsEnd_1 16 rfl rfl)
theorem dX7_yearsEnd_41 : decode cX7_yearsEnd 41 = .ok (.goto 4, 3) := dk_167 0 4 (dk_at dksX7_yearsEnd_1 17 rfl rfl)
theorem dX7_yearsEnd_44 : decode cX7_yearsEnd 44 = .ok (.iconst 0, 1) := dk_3 (dk_at dksX7_yearsEnd_1 20 rfl rfl)
theorem dX7_yearsEnd_45 : decode cX7_yearsEnd 45 = .ok (.istore_n 3, 1) := dk_62 (dk_at dksX7_yearsEnd_1 21 rfl rfl)
theorem dX7_yearsEnd_46 : decode cX7_yearsEnd 46 = .ok (.aload_n 0, 1) := dk_42 (dk_at dksX7_yearsEnd_1 22 rfl rfl)
theorem dX7_yearsEnd_47 : decode cX7_yearsEnd 47 = .ok (.getfield 7, 3) := dk_180 0 7 (dk_at dksX7_yearsEnd_2 0 rfl rfl)
theorem dX7_yearsEnd_50 : decode cX7_yearsEnd 50 = .ok (.iload_n 1, 1) := dk_27 (dk_at dksX7_yearsEnd_2 3 rfl rfl)
theorem dX7_yearsEnd_51 : decode cX7_yearsEnd 51 = .ok (.bipush 15, 2) := dk_16 15 (dk_at dksX7_yearsEnd_2 4 rfl rfl)
theorem dX7_yearsEnd_53 : decode cX7_yearsEnd 53 = .ok (.iadd, 1) := dk_96 (dk_at dksX7_yearsEnd_2 6 rfl rfl)
theorem dX7_yearsEnd_54 : decode cX7_yearsEnd 54 = .ok (.iload_n 2, 1) := dk_28 (dk_at dksX7_yearsEnd_2 7 rfl rfl)
theorem dX7_yearsEnd_55 : decode cX7_yearsEnd 55 = .ok (.iadd, 1) := dk_96 (dk_at dksX7_yearsEnd_2 8 rfl rfl)
theorem dX7_yearsEnd_56 : decode cX7_yearsEnd 56 = .ok (.dup2, 1) := dk_92 (dk_at dksX7_yearsEnd_2 9 rfl rfl)
theorem dX7_yearsEnd_57 : decode cX7_yearsEnd 57 = .ok (.iaload, 1) := dk_46 (dk_at dksX7_yearsEnd_2 10 rfl rfl)
theorem dX7_yearsEnd_58 : decode cX7_yearsEnd 58 = .ok (.iload_n 3, 1) := dk_29 (dk_at dksX7_yearsEnd_2 11 rfl rfl)
theorem dX7_yearsEnd_59 : decode cX7_yearsEnd 59 = .ok (.ifCond .eq 7, 3) := dk_153 0 7 (dk_at dksX7_yearsEnd_2 12 rfl rfl)
theorem dX7_yearsEnd_62 : decode cX7_yearsEnd 62 = .ok (.iconst 1, 1) := dk_4 (dk_at dksX7_yearsEnd_2 15 rfl rfl)
theorem dX7_yearsEnd_63 : decode cX7_yearsEnd 63 = .ok (.goto 4, 3) := dk_167 0 4 (dk_at dksX7_yearsEnd_2 16 rfl rfl)
theorem dX7_yearsEnd_66 : decode cX7_yearsEnd 66 = .ok (.iconst 0, 1) := dk_3 (dk_at dksX7_yearsEnd_2 19 rfl rfl)
theorem dX7_yearsEnd_67 : decode cX7_yearsEnd 67 = .ok (.iadd, 1) := dk_96 (dk_at dksX7_yearsEnd_2 20 rfl rfl)
theorem dX7_yearsEnd_68 : decode cX7_yearsEnd 68 = .ok (.iastore, 1) := dk_79 (dk_at dksX7_yearsEnd_2 21 rfl rfl)
theorem dX7_yearsEnd_69 : decode cX7_yearsEnd 69 = .ok (.aload_n 0, 1) := dk_42 (dk_at dksX7_yearsEnd_2 22 rfl rfl)
theorem dX7_yearsEnd_70 : decode cX7_yearsEnd 70 = .ok (.getfield 7, 3) := dk_180 0 7 (dk_at dksX7_yearsEnd_3 0 rfl rfl)
theorem dX7_yearsEnd_73 : decode cX7_yearsEnd 73 = .ok (.iload_n 1, 1) := dk_27 (dk_at dksX7_yearsEnd_3 3 rfl rfl)
theorem dX7_yearsEnd_74 : decode cX7_yearsEnd 74 = .ok (.bipush 10, 2) := dk_16 10 (dk_at dksX7_yearsEnd_3 4 rfl rfl)
theorem dX7_yearsEnd_76 : decode cX7_yearsEnd 76 = .ok (.iadd, 1) := dk_96 (dk_at dksX7_yearsEnd_3 6 rfl rfl)
theorem dX7_yearsEnd_77 : decode cX7_yearsEnd 77 = .ok (.iload_n 2, 1) := dk_28 (dk_at dksX7_yearsEnd_3 7 rfl rfl)
theorem dX7_yearsEnd_78 : decode cX7_yearsEnd 78 = .ok (.iadd, 1) := dk_96 (dk_at dksX7_yearsEnd_3 8 rfl rfl)
theorem dX7_yearsEnd_79 : decode cX7_yearsEnd 79 = .ok (.iconst 0, 1) := dk_3 (dk_at dksX7_yearsEnd_3 9 rfl rfl)
theorem dX7_yearsEnd_80 : decode cX7_yearsEnd 80 = .ok (.iastore, 1) := dk_79 (dk_at dksX7_yearsEnd_3 10 rfl rfl)
theorem dX7_yearsEnd_81 : decode cX7_yearsEnd 81 = .ok (.iinc 2 1, 3) := dk_132 2 1 (dk_at dksX7_yearsEnd_3 11 rfl rfl)
theorem dX7_yearsEnd_84 : decode cX7_yearsEnd 84 = .ok (.goto (-82), 3) := dk_167 255 174 (dk_at dksX7_yearsEnd_3 14 rfl rfl)
theorem dX7_yearsEnd_87 : decode cX7_yearsEnd 87 = .ok (.return_, 1) := dk_177 (dk_at dksX7_yearsEnd_3 17 rfl rfl)
abbrev cX7_runs : ByteArray := prog_11_method_41_code
def yX7_runs : MethodName := ⟨RX7, "runs", "(II)I"⟩
def dkwX7_runs_3 : List UInt8 := [182, 0, 161, 172]
abbrev dktX7_runs_3 : List UInt8 := dkwX7_runs_3 ++ []
def dkwX7_runs_2 : List UInt8 := [160, 0, 10, 42, 180, 0, 145, 167, 0, 19, 28, 5, 160, 0, 7, 29, 167, 0, 10, 42, 17, 0, 168]
abbrev dktX7_runs_2 : List UInt8 := dkwX7_runs_2 ++ dktX7_runs_3
def dkwX7_runs_1 : List UInt8 := [2, 172, 42, 3, 27, 182, 0, 201, 62, 28, 154, 0, 10, 42, 180, 0, 148, 167, 0, 31, 28, 4]
abbrev dktX7_runs_1 : List UInt8 := dkwX7_runs_1 ++ dktX7_runs_2
def dkwX7_runs_0 : List UInt8 := [27, 133, 9, 20, 0, 199, 184, 0, 53, 153, 0, 15, 28, 133, 9, 20, 0, 174, 184, 0, 53, 154, 0, 5]
abbrev dktX7_runs_0 : List UInt8 := dkwX7_runs_0 ++ dktX7_runs_1
theorem dksX7_runs_0 : cX7_runs.data.toList.drop 0 = dktX7_runs_0 := by decide +kernel
theorem dksX7_runs_1 : cX7_runs.data.toList.drop 24 = dktX7_runs_1 := dk_seg dksX7_runs_0 24 rfl rfl
theorem dksX7_runs_2 : cX7_runs.data.toList.drop 46 = dktX7_runs_2 := dk_seg dksX7_runs_1 22 rfl rfl
theorem dksX7_runs_3 : cX7_runs.data.toList.drop 69 = dktX7_runs_3 := dk_seg dksX7_runs_2 23 rfl rfl
theorem dX7_runs_0 : decode cX7_runs 0 = .ok (.iload_n 1, 1) := dk_27 (dk_at dksX7_runs_0 0 rfl rfl)
theorem dX7_runs_1 : decode cX7_runs 1 = .ok (.i2l, 1) := dk_133 (dk_at dksX7_runs_0 1 rfl rfl)
theorem dX7_runs_2 : decode cX7_runs 2 = .ok (.lconst 0, 1) := dk_9 (dk_at dksX7_runs_0 2 rfl rfl)
theorem dX7_runs_3 : decode cX7_runs 3 = .ok (.ldc2_w 199, 3) := dk_20 0 199 (dk_at dksX7_runs_0 3 rfl rfl)
theorem dX7_runs_6 : decode cX7_runs 6 = .ok (.invokestatic 53, 3) := dk_184 0 53 (dk_at dksX7_runs_0 6 rfl rfl)
theorem dX7_runs_9 : decode cX7_runs 9 = .ok (.ifCond .eq 15, 3) := dk_153 0 15 (dk_at dksX7_runs_0 9 rfl rfl)
theorem dX7_runs_12 : decode cX7_runs 12 = .ok (.iload_n 2, 1) := dk_28 (dk_at dksX7_runs_0 12 rfl rfl)
theorem dX7_runs_13 : decode cX7_runs 13 = .ok (.i2l, 1) := dk_133 (dk_at dksX7_runs_0 13 rfl rfl)
theorem dX7_runs_14 : decode cX7_runs 14 = .ok (.lconst 0, 1) := dk_9 (dk_at dksX7_runs_0 14 rfl rfl)
theorem dX7_runs_15 : decode cX7_runs 15 = .ok (.ldc2_w 174, 3) := dk_20 0 174 (dk_at dksX7_runs_0 15 rfl rfl)
theorem dX7_runs_18 : decode cX7_runs 18 = .ok (.invokestatic 53, 3) := dk_184 0 53 (dk_at dksX7_runs_0 18 rfl rfl)
theorem dX7_runs_21 : decode cX7_runs 21 = .ok (.ifCond .ne 5, 3) := dk_154 0 5 (dk_at dksX7_runs_0 21 rfl rfl)
theorem dX7_runs_24 : decode cX7_runs 24 = .ok (.iconst (-1), 1) := dk_2 (dk_at dksX7_runs_1 0 rfl rfl)
theorem dX7_runs_25 : decode cX7_runs 25 = .ok (.ireturn, 1) := dk_172 (dk_at dksX7_runs_1 1 rfl rfl)
theorem dX7_runs_26 : decode cX7_runs 26 = .ok (.aload_n 0, 1) := dk_42 (dk_at dksX7_runs_1 2 rfl rfl)
theorem dX7_runs_27 : decode cX7_runs 27 = .ok (.iconst 0, 1) := dk_3 (dk_at dksX7_runs_1 3 rfl rfl)
theorem dX7_runs_28 : decode cX7_runs 28 = .ok (.iload_n 1, 1) := dk_27 (dk_at dksX7_runs_1 4 rfl rfl)
theorem dX7_runs_29 : decode cX7_runs 29 = .ok (.invokevirtual 201, 3) := dk_182 0 201 (dk_at dksX7_runs_1 5 rfl rfl)
theorem dX7_runs_32 : decode cX7_runs 32 = .ok (.istore_n 3, 1) := dk_62 (dk_at dksX7_runs_1 8 rfl rfl)
theorem dX7_runs_33 : decode cX7_runs 33 = .ok (.iload_n 2, 1) := dk_28 (dk_at dksX7_runs_1 9 rfl rfl)
theorem dX7_runs_34 : decode cX7_runs 34 = .ok (.ifCond .ne 10, 3) := dk_154 0 10 (dk_at dksX7_runs_1 10 rfl rfl)
theorem dX7_runs_37 : decode cX7_runs 37 = .ok (.aload_n 0, 1) := dk_42 (dk_at dksX7_runs_1 13 rfl rfl)
theorem dX7_runs_38 : decode cX7_runs 38 = .ok (.getfield 148, 3) := dk_180 0 148 (dk_at dksX7_runs_1 14 rfl rfl)
theorem dX7_runs_41 : decode cX7_runs 41 = .ok (.goto 31, 3) := dk_167 0 31 (dk_at dksX7_runs_1 17 rfl rfl)
theorem dX7_runs_44 : decode cX7_runs 44 = .ok (.iload_n 2, 1) := dk_28 (dk_at dksX7_runs_1 20 rfl rfl)
theorem dX7_runs_45 : decode cX7_runs 45 = .ok (.iconst 1, 1) := dk_4 (dk_at dksX7_runs_1 21 rfl rfl)
theorem dX7_runs_46 : decode cX7_runs 46 = .ok (.if_icmp .ne 10, 3) := dk_160 0 10 (dk_at dksX7_runs_2 0 rfl rfl)
theorem dX7_runs_49 : decode cX7_runs 49 = .ok (.aload_n 0, 1) := dk_42 (dk_at dksX7_runs_2 3 rfl rfl)
theorem dX7_runs_50 : decode cX7_runs 50 = .ok (.getfield 145, 3) := dk_180 0 145 (dk_at dksX7_runs_2 4 rfl rfl)
theorem dX7_runs_53 : decode cX7_runs 53 = .ok (.goto 19, 3) := dk_167 0 19 (dk_at dksX7_runs_2 7 rfl rfl)
theorem dX7_runs_56 : decode cX7_runs 56 = .ok (.iload_n 2, 1) := dk_28 (dk_at dksX7_runs_2 10 rfl rfl)
theorem dX7_runs_57 : decode cX7_runs 57 = .ok (.iconst 2, 1) := dk_5 (dk_at dksX7_runs_2 11 rfl rfl)
theorem dX7_runs_58 : decode cX7_runs 58 = .ok (.if_icmp .ne 7, 3) := dk_160 0 7 (dk_at dksX7_runs_2 12 rfl rfl)
theorem dX7_runs_61 : decode cX7_runs 61 = .ok (.iload_n 3, 1) := dk_29 (dk_at dksX7_runs_2 15 rfl rfl)
theorem dX7_runs_62 : decode cX7_runs 62 = .ok (.goto 10, 3) := dk_167 0 10 (dk_at dksX7_runs_2 16 rfl rfl)
theorem dX7_runs_65 : decode cX7_runs 65 = .ok (.aload_n 0, 1) := dk_42 (dk_at dksX7_runs_2 19 rfl rfl)
theorem dX7_runs_66 : decode cX7_runs 66 = .ok (.sipush 168, 3) := dk_17 0 168 (dk_at dksX7_runs_2 20 rfl rfl)
theorem dX7_runs_69 : decode cX7_runs 69 = .ok (.invokevirtual 161, 3) := dk_182 0 161 (dk_at dksX7_runs_3 0 rfl rfl)
theorem dX7_runs_72 : decode cX7_runs 72 = .ok (.ireturn, 1) := dk_172 (dk_at dksX7_runs_3 3 rfl rfl)
abbrev cX7_weeksGo : ByteArray := prog_11_method_40_code
def yX7_weeksGo : MethodName := ⟨RX7, "weeksGo", "(II)I"⟩
def dkwX7_weeksGo_2 : List UInt8 := [172]
abbrev dktX7_weeksGo_2 : List UInt8 := dkwX7_weeksGo_2 ++ []
def dkwX7_weeksGo_1 : List UInt8 := [162, 0, 17, 42, 17, 0, 168, 3, 182, 0, 191, 132, 3, 1, 167, 255, 240, 42, 17, 0, 168, 182, 0, 164]
abbrev dktX7_weeksGo_1 : List UInt8 := dkwX7_weeksGo_1 ++ dktX7_weeksGo_2
def dkwX7_weeksGo_0 : List UInt8 := [42, 27, 17, 0, 168, 182, 0, 195, 42, 3, 181, 0, 148, 42, 3, 181, 0, 145, 3, 62, 29, 28]
abbrev dktX7_weeksGo_0 : List UInt8 := dkwX7_weeksGo_0 ++ dktX7_weeksGo_1
theorem dksX7_weeksGo_0 : cX7_weeksGo.data.toList.drop 0 = dktX7_weeksGo_0 := by decide +kernel
theorem dksX7_weeksGo_1 : cX7_weeksGo.data.toList.drop 22 = dktX7_weeksGo_1 := dk_seg dksX7_weeksGo_0 22 rfl rfl
theorem dksX7_weeksGo_2 : cX7_weeksGo.data.toList.drop 46 = dktX7_weeksGo_2 := dk_seg dksX7_weeksGo_1 24 rfl rfl
theorem dX7_weeksGo_0 : decode cX7_weeksGo 0 = .ok (.aload_n 0, 1) := dk_42 (dk_at dksX7_weeksGo_0 0 rfl rfl)
theorem dX7_weeksGo_1 : decode cX7_weeksGo 1 = .ok (.iload_n 1, 1) := dk_27 (dk_at dksX7_weeksGo_0 1 rfl rfl)
theorem dX7_weeksGo_2 : decode cX7_weeksGo 2 = .ok (.sipush 168, 3) := dk_17 0 168 (dk_at dksX7_weeksGo_0 2 rfl rfl)
theorem dX7_weeksGo_5 : decode cX7_weeksGo 5 = .ok (.invokevirtual 195, 3) := dk_182 0 195 (dk_at dksX7_weeksGo_0 5 rfl rfl)
theorem dX7_weeksGo_8 : decode cX7_weeksGo 8 = .ok (.aload_n 0, 1) := dk_42 (dk_at dksX7_weeksGo_0 8 rfl rfl)
theorem dX7_weeksGo_9 : decode cX7_weeksGo 9 = .ok (.iconst 0, 1) := dk_3 (dk_at dksX7_weeksGo_0 9 rfl rfl)
theorem dX7_weeksGo_10 : decode cX7_weeksGo 10 = .ok (.putfield 148, 3) := dk_181 0 148 (dk_at dksX7_weeksGo_0 10 rfl rfl)
theorem dX7_weeksGo_13 : decode cX7_weeksGo 13 = .ok (.aload_n 0, 1) := dk_42 (dk_at dksX7_weeksGo_0 13 rfl rfl)
theorem dX7_weeksGo_14 : decode cX7_weeksGo 14 = .ok (.iconst 0, 1) := dk_3 (dk_at dksX7_weeksGo_0 14 rfl rfl)
theorem dX7_weeksGo_15 : decode cX7_weeksGo 15 = .ok (.putfield 145, 3) := dk_181 0 145 (dk_at dksX7_weeksGo_0 15 rfl rfl)
theorem dX7_weeksGo_18 : decode cX7_weeksGo 18 = .ok (.iconst 0, 1) := dk_3 (dk_at dksX7_weeksGo_0 18 rfl rfl)
theorem dX7_weeksGo_19 : decode cX7_weeksGo 19 = .ok (.istore_n 3, 1) := dk_62 (dk_at dksX7_weeksGo_0 19 rfl rfl)
theorem dX7_weeksGo_20 : decode cX7_weeksGo 20 = .ok (.iload_n 3, 1) := dk_29 (dk_at dksX7_weeksGo_0 20 rfl rfl)
theorem dX7_weeksGo_21 : decode cX7_weeksGo 21 = .ok (.iload_n 2, 1) := dk_28 (dk_at dksX7_weeksGo_0 21 rfl rfl)
theorem dX7_weeksGo_22 : decode cX7_weeksGo 22 = .ok (.if_icmp .ge 17, 3) := dk_162 0 17 (dk_at dksX7_weeksGo_1 0 rfl rfl)
theorem dX7_weeksGo_25 : decode cX7_weeksGo 25 = .ok (.aload_n 0, 1) := dk_42 (dk_at dksX7_weeksGo_1 3 rfl rfl)
theorem dX7_weeksGo_26 : decode cX7_weeksGo 26 = .ok (.sipush 168, 3) := dk_17 0 168 (dk_at dksX7_weeksGo_1 4 rfl rfl)
theorem dX7_weeksGo_29 : decode cX7_weeksGo 29 = .ok (.iconst 0, 1) := dk_3 (dk_at dksX7_weeksGo_1 7 rfl rfl)
theorem dX7_weeksGo_30 : decode cX7_weeksGo 30 = .ok (.invokevirtual 191, 3) := dk_182 0 191 (dk_at dksX7_weeksGo_1 8 rfl rfl)
theorem dX7_weeksGo_33 : decode cX7_weeksGo 33 = .ok (.iinc 3 1, 3) := dk_132 3 1 (dk_at dksX7_weeksGo_1 11 rfl rfl)
theorem dX7_weeksGo_36 : decode cX7_weeksGo 36 = .ok (.goto (-16), 3) := dk_167 255 240 (dk_at dksX7_weeksGo_1 14 rfl rfl)
theorem dX7_weeksGo_39 : decode cX7_weeksGo 39 = .ok (.aload_n 0, 1) := dk_42 (dk_at dksX7_weeksGo_1 17 rfl rfl)
theorem dX7_weeksGo_40 : decode cX7_weeksGo 40 = .ok (.sipush 168, 3) := dk_17 0 168 (dk_at dksX7_weeksGo_1 18 rfl rfl)
theorem dX7_weeksGo_43 : decode cX7_weeksGo 43 = .ok (.invokevirtual 164, 3) := dk_182 0 164 (dk_at dksX7_weeksGo_1 21 rfl rfl)
theorem dX7_weeksGo_46 : decode cX7_weeksGo 46 = .ok (.ireturn, 1) := dk_172 (dk_at dksX7_weeksGo_2 0 rfl rfl)
abbrev cX7_copies : ByteArray := prog_11_method_39_code
def yX7_copies : MethodName := ⟨RX7, "copies", "(II)V"⟩
def dkwX7_copies_1 : List UInt8 := [132, 3, 1, 167, 255, 231, 177]
abbrev dktX7_copies_1 : List UInt8 := dkwX7_copies_1 ++ []
def dkwX7_copies_0 : List UInt8 := [3, 62, 29, 16, 42, 162, 0, 25, 42, 180, 0, 7, 28, 29, 96, 42, 180, 0, 7, 27, 29, 96, 46, 79]
abbrev dktX7_copies_0 : List UInt8 := dkwX7_copies_0 ++ dktX7_copies_1
theorem dksX7_copies_0 : cX7_copies.data.toList.drop 0 = dktX7_copies_0 := by decide +kernel
theorem dksX7_copies_1 : cX7_copies.data.toList.drop 24 = dktX7_copies_1 := dk_seg dksX7_copies_0 24 rfl rfl
theorem dX7_copies_0 : decode cX7_copies 0 = .ok (.iconst 0, 1) := dk_3 (dk_at dksX7_copies_0 0 rfl rfl)
theorem dX7_copies_1 : decode cX7_copies 1 = .ok (.istore_n 3, 1) := dk_62 (dk_at dksX7_copies_0 1 rfl rfl)
theorem dX7_copies_2 : decode cX7_copies 2 = .ok (.iload_n 3, 1) := dk_29 (dk_at dksX7_copies_0 2 rfl rfl)
theorem dX7_copies_3 : decode cX7_copies 3 = .ok (.bipush 42, 2) := dk_16 42 (dk_at dksX7_copies_0 3 rfl rfl)
theorem dX7_copies_5 : decode cX7_copies 5 = .ok (.if_icmp .ge 25, 3) := dk_162 0 25 (dk_at dksX7_copies_0 5 rfl rfl)
theorem dX7_copies_8 : decode cX7_copies 8 = .ok (.aload_n 0, 1) := dk_42 (dk_at dksX7_copies_0 8 rfl rfl)
theorem dX7_copies_9 : decode cX7_copies 9 = .ok (.getfield 7, 3) := dk_180 0 7 (dk_at dksX7_copies_0 9 rfl rfl)
theorem dX7_copies_12 : decode cX7_copies 12 = .ok (.iload_n 2, 1) := dk_28 (dk_at dksX7_copies_0 12 rfl rfl)
theorem dX7_copies_13 : decode cX7_copies 13 = .ok (.iload_n 3, 1) := dk_29 (dk_at dksX7_copies_0 13 rfl rfl)
theorem dX7_copies_14 : decode cX7_copies 14 = .ok (.iadd, 1) := dk_96 (dk_at dksX7_copies_0 14 rfl rfl)
theorem dX7_copies_15 : decode cX7_copies 15 = .ok (.aload_n 0, 1) := dk_42 (dk_at dksX7_copies_0 15 rfl rfl)
theorem dX7_copies_16 : decode cX7_copies 16 = .ok (.getfield 7, 3) := dk_180 0 7 (dk_at dksX7_copies_0 16 rfl rfl)
theorem dX7_copies_19 : decode cX7_copies 19 = .ok (.iload_n 1, 1) := dk_27 (dk_at dksX7_copies_0 19 rfl rfl)
theorem dX7_copies_20 : decode cX7_copies 20 = .ok (.iload_n 3, 1) := dk_29 (dk_at dksX7_copies_0 20 rfl rfl)
theorem dX7_copies_21 : decode cX7_copies 21 = .ok (.iadd, 1) := dk_96 (dk_at dksX7_copies_0 21 rfl rfl)
theorem dX7_copies_22 : decode cX7_copies 22 = .ok (.iaload, 1) := dk_46 (dk_at dksX7_copies_0 22 rfl rfl)
theorem dX7_copies_23 : decode cX7_copies 23 = .ok (.iastore, 1) := dk_79 (dk_at dksX7_copies_0 23 rfl rfl)
theorem dX7_copies_24 : decode cX7_copies 24 = .ok (.iinc 3 1, 3) := dk_132 3 1 (dk_at dksX7_copies_1 0 rfl rfl)
theorem dX7_copies_27 : decode cX7_copies 27 = .ok (.goto (-25), 3) := dk_167 255 231 (dk_at dksX7_copies_1 3 rfl rfl)
theorem dX7_copies_30 : decode cX7_copies 30 = .ok (.return_, 1) := dk_177 (dk_at dksX7_copies_1 6 rfl rfl)
abbrev cX7_ahead : ByteArray := prog_11_method_42_code
def yX7_ahead : MethodName := ⟨RX7, "ahead", "(III)I"⟩
def dkwX7_ahead_2 : List UInt8 := [17, 0, 173, 8, 29, 104, 96, 27, 96, 46, 172]
abbrev dktX7_ahead_2 : List UInt8 := dkwX7_ahead_2 ++ []
def dkwX7_ahead_1 : List UInt8 := [20, 0, 204, 184, 0, 53, 154, 0, 5, 2, 172, 42, 3, 28, 182, 0, 201, 87, 42, 180, 0, 7]
abbrev dktX7_ahead_1 : List UInt8 := dkwX7_ahead_1 ++ dktX7_ahead_2
def dkwX7_ahead_0 : List UInt8 := [42, 27, 182, 0, 131, 153, 0, 27, 28, 133, 9, 20, 0, 199, 184, 0, 53, 153, 0, 15, 29, 133, 9]
abbrev dktX7_ahead_0 : List UInt8 := dkwX7_ahead_0 ++ dktX7_ahead_1
theorem dksX7_ahead_0 : cX7_ahead.data.toList.drop 0 = dktX7_ahead_0 := by decide +kernel
theorem dksX7_ahead_1 : cX7_ahead.data.toList.drop 23 = dktX7_ahead_1 := dk_seg dksX7_ahead_0 23 rfl rfl
theorem dksX7_ahead_2 : cX7_ahead.data.toList.drop 45 = dktX7_ahead_2 := dk_seg dksX7_ahead_1 22 rfl rfl
theorem dX7_ahead_0 : decode cX7_ahead 0 = .ok (.aload_n 0, 1) := dk_42 (dk_at dksX7_ahead_0 0 rfl rfl)
theorem dX7_ahead_1 : decode cX7_ahead 1 = .ok (.iload_n 1, 1) := dk_27 (dk_at dksX7_ahead_0 1 rfl rfl)
theorem dX7_ahead_2 : decode cX7_ahead 2 = .ok (.invokevirtual 131, 3) := dk_182 0 131 (dk_at dksX7_ahead_0 2 rfl rfl)
theorem dX7_ahead_5 : decode cX7_ahead 5 = .ok (.ifCond .eq 27, 3) := dk_153 0 27 (dk_at dksX7_ahead_0 5 rfl rfl)
theorem dX7_ahead_8 : decode cX7_ahead 8 = .ok (.iload_n 2, 1) := dk_28 (dk_at dksX7_ahead_0 8 rfl rfl)
theorem dX7_ahead_9 : decode cX7_ahead 9 = .ok (.i2l, 1) := dk_133 (dk_at dksX7_ahead_0 9 rfl rfl)
theorem dX7_ahead_10 : decode cX7_ahead 10 = .ok (.lconst 0, 1) := dk_9 (dk_at dksX7_ahead_0 10 rfl rfl)
theorem dX7_ahead_11 : decode cX7_ahead 11 = .ok (.ldc2_w 199, 3) := dk_20 0 199 (dk_at dksX7_ahead_0 11 rfl rfl)
theorem dX7_ahead_14 : decode cX7_ahead 14 = .ok (.invokestatic 53, 3) := dk_184 0 53 (dk_at dksX7_ahead_0 14 rfl rfl)
theorem dX7_ahead_17 : decode cX7_ahead 17 = .ok (.ifCond .eq 15, 3) := dk_153 0 15 (dk_at dksX7_ahead_0 17 rfl rfl)
theorem dX7_ahead_20 : decode cX7_ahead 20 = .ok (.iload_n 3, 1) := dk_29 (dk_at dksX7_ahead_0 20 rfl rfl)
theorem dX7_ahead_21 : decode cX7_ahead 21 = .ok (.i2l, 1) := dk_133 (dk_at dksX7_ahead_0 21 rfl rfl)
theorem dX7_ahead_22 : decode cX7_ahead 22 = .ok (.lconst 0, 1) := dk_9 (dk_at dksX7_ahead_0 22 rfl rfl)
theorem dX7_ahead_23 : decode cX7_ahead 23 = .ok (.ldc2_w 204, 3) := dk_20 0 204 (dk_at dksX7_ahead_1 0 rfl rfl)
theorem dX7_ahead_26 : decode cX7_ahead 26 = .ok (.invokestatic 53, 3) := dk_184 0 53 (dk_at dksX7_ahead_1 3 rfl rfl)
theorem dX7_ahead_29 : decode cX7_ahead 29 = .ok (.ifCond .ne 5, 3) := dk_154 0 5 (dk_at dksX7_ahead_1 6 rfl rfl)
theorem dX7_ahead_32 : decode cX7_ahead 32 = .ok (.iconst (-1), 1) := dk_2 (dk_at dksX7_ahead_1 9 rfl rfl)
theorem dX7_ahead_33 : decode cX7_ahead 33 = .ok (.ireturn, 1) := dk_172 (dk_at dksX7_ahead_1 10 rfl rfl)
theorem dX7_ahead_34 : decode cX7_ahead 34 = .ok (.aload_n 0, 1) := dk_42 (dk_at dksX7_ahead_1 11 rfl rfl)
theorem dX7_ahead_35 : decode cX7_ahead 35 = .ok (.iconst 0, 1) := dk_3 (dk_at dksX7_ahead_1 12 rfl rfl)
theorem dX7_ahead_36 : decode cX7_ahead 36 = .ok (.iload_n 2, 1) := dk_28 (dk_at dksX7_ahead_1 13 rfl rfl)
theorem dX7_ahead_37 : decode cX7_ahead 37 = .ok (.invokevirtual 201, 3) := dk_182 0 201 (dk_at dksX7_ahead_1 14 rfl rfl)
theorem dX7_ahead_40 : decode cX7_ahead 40 = .ok (.pop, 1) := dk_87 (dk_at dksX7_ahead_1 17 rfl rfl)
theorem dX7_ahead_41 : decode cX7_ahead 41 = .ok (.aload_n 0, 1) := dk_42 (dk_at dksX7_ahead_1 18 rfl rfl)
theorem dX7_ahead_42 : decode cX7_ahead 42 = .ok (.getfield 7, 3) := dk_180 0 7 (dk_at dksX7_ahead_1 19 rfl rfl)
theorem dX7_ahead_45 : decode cX7_ahead 45 = .ok (.sipush 173, 3) := dk_17 0 173 (dk_at dksX7_ahead_2 0 rfl rfl)
theorem dX7_ahead_48 : decode cX7_ahead 48 = .ok (.iconst 5, 1) := dk_8 (dk_at dksX7_ahead_2 3 rfl rfl)
theorem dX7_ahead_49 : decode cX7_ahead 49 = .ok (.iload_n 3, 1) := dk_29 (dk_at dksX7_ahead_2 4 rfl rfl)
theorem dX7_ahead_50 : decode cX7_ahead 50 = .ok (.imul, 1) := dk_104 (dk_at dksX7_ahead_2 5 rfl rfl)
theorem dX7_ahead_51 : decode cX7_ahead 51 = .ok (.iadd, 1) := dk_96 (dk_at dksX7_ahead_2 6 rfl rfl)
theorem dX7_ahead_52 : decode cX7_ahead 52 = .ok (.iload_n 1, 1) := dk_27 (dk_at dksX7_ahead_2 7 rfl rfl)
theorem dX7_ahead_53 : decode cX7_ahead 53 = .ok (.iadd, 1) := dk_96 (dk_at dksX7_ahead_2 8 rfl rfl)
theorem dX7_ahead_54 : decode cX7_ahead 54 = .ok (.iaload, 1) := dk_46 (dk_at dksX7_ahead_2 9 rfl rfl)
theorem dX7_ahead_55 : decode cX7_ahead 55 = .ok (.ireturn, 1) := dk_172 (dk_at dksX7_ahead_2 10 rfl rfl)
abbrev cX7_loser : ByteArray := prog_11_method_43_code
def yX7_loser : MethodName := ⟨RX7, "loser", "(I)I"⟩
def dkwX7_loser_1 : List UInt8 := [180, 0, 142, 172]
abbrev dktX7_loser_1 : List UInt8 := dkwX7_loser_1 ++ []
def dkwX7_loser_0 : List UInt8 := [27, 133, 9, 20, 0, 199, 184, 0, 53, 154, 0, 5, 2, 172, 42, 3, 27, 4, 96, 182, 0, 201, 87, 42]
abbrev dktX7_loser_0 : List UInt8 := dkwX7_loser_0 ++ dktX7_loser_1
theorem dksX7_loser_0 : cX7_loser.data.toList.drop 0 = dktX7_loser_0 := by decide +kernel
theorem dksX7_loser_1 : cX7_loser.data.toList.drop 24 = dktX7_loser_1 := dk_seg dksX7_loser_0 24 rfl rfl
theorem dX7_loser_0 : decode cX7_loser 0 = .ok (.iload_n 1, 1) := dk_27 (dk_at dksX7_loser_0 0 rfl rfl)
theorem dX7_loser_1 : decode cX7_loser 1 = .ok (.i2l, 1) := dk_133 (dk_at dksX7_loser_0 1 rfl rfl)
theorem dX7_loser_2 : decode cX7_loser 2 = .ok (.lconst 0, 1) := dk_9 (dk_at dksX7_loser_0 2 rfl rfl)
theorem dX7_loser_3 : decode cX7_loser 3 = .ok (.ldc2_w 199, 3) := dk_20 0 199 (dk_at dksX7_loser_0 3 rfl rfl)
theorem dX7_loser_6 : decode cX7_loser 6 = .ok (.invokestatic 53, 3) := dk_184 0 53 (dk_at dksX7_loser_0 6 rfl rfl)
theorem dX7_loser_9 : decode cX7_loser 9 = .ok (.ifCond .ne 5, 3) := dk_154 0 5 (dk_at dksX7_loser_0 9 rfl rfl)
theorem dX7_loser_12 : decode cX7_loser 12 = .ok (.iconst (-1), 1) := dk_2 (dk_at dksX7_loser_0 12 rfl rfl)
theorem dX7_loser_13 : decode cX7_loser 13 = .ok (.ireturn, 1) := dk_172 (dk_at dksX7_loser_0 13 rfl rfl)
theorem dX7_loser_14 : decode cX7_loser 14 = .ok (.aload_n 0, 1) := dk_42 (dk_at dksX7_loser_0 14 rfl rfl)
theorem dX7_loser_15 : decode cX7_loser 15 = .ok (.iconst 0, 1) := dk_3 (dk_at dksX7_loser_0 15 rfl rfl)
theorem dX7_loser_16 : decode cX7_loser 16 = .ok (.iload_n 1, 1) := dk_27 (dk_at dksX7_loser_0 16 rfl rfl)
theorem dX7_loser_17 : decode cX7_loser 17 = .ok (.iconst 1, 1) := dk_4 (dk_at dksX7_loser_0 17 rfl rfl)
theorem dX7_loser_18 : decode cX7_loser 18 = .ok (.iadd, 1) := dk_96 (dk_at dksX7_loser_0 18 rfl rfl)
theorem dX7_loser_19 : decode cX7_loser 19 = .ok (.invokevirtual 201, 3) := dk_182 0 201 (dk_at dksX7_loser_0 19 rfl rfl)
theorem dX7_loser_22 : decode cX7_loser 22 = .ok (.pop, 1) := dk_87 (dk_at dksX7_loser_0 22 rfl rfl)
theorem dX7_loser_23 : decode cX7_loser 23 = .ok (.aload_n 0, 1) := dk_42 (dk_at dksX7_loser_0 23 rfl rfl)
theorem dX7_loser_24 : decode cX7_loser 24 = .ok (.getfield 142, 3) := dk_180 0 142 (dk_at dksX7_loser_1 0 rfl rfl)
theorem dX7_loser_27 : decode cX7_loser 27 = .ok (.ireturn, 1) := dk_172 (dk_at dksX7_loser_1 3 rfl rfl)
abbrev cX7_loses : ByteArray := prog_11_method_45_code
def yX7_loses : MethodName := ⟨RX7, "loses", "(I)I"⟩
def dkwX7_loses_0 : List UInt8 := [42, 27, 182, 0, 131, 153, 0, 14, 42, 3, 27, 16, 61, 182, 0, 206, 167, 0, 4, 2, 172]
abbrev dktX7_loses_0 : List UInt8 := dkwX7_loses_0 ++ []
theorem dksX7_loses_0 : cX7_loses.data.toList.drop 0 = dktX7_loses_0 := by decide +kernel
theorem dX7_loses_0 : decode cX7_loses 0 = .ok (.aload_n 0, 1) := dk_42 (dk_at dksX7_loses_0 0 rfl rfl)
theorem dX7_loses_1 : decode cX7_loses 1 = .ok (.iload_n 1, 1) := dk_27 (dk_at dksX7_loses_0 1 rfl rfl)
theorem dX7_loses_2 : decode cX7_loses 2 = .ok (.invokevirtual 131, 3) := dk_182 0 131 (dk_at dksX7_loses_0 2 rfl rfl)
theorem dX7_loses_5 : decode cX7_loses 5 = .ok (.ifCond .eq 14, 3) := dk_153 0 14 (dk_at dksX7_loses_0 5 rfl rfl)
theorem dX7_loses_8 : decode cX7_loses 8 = .ok (.aload_n 0, 1) := dk_42 (dk_at dksX7_loses_0 8 rfl rfl)
theorem dX7_loses_9 : decode cX7_loses 9 = .ok (.iconst 0, 1) := dk_3 (dk_at dksX7_loses_0 9 rfl rfl)
theorem dX7_loses_10 : decode cX7_loses 10 = .ok (.iload_n 1, 1) := dk_27 (dk_at dksX7_loses_0 10 rfl rfl)
theorem dX7_loses_11 : decode cX7_loses 11 = .ok (.bipush 61, 2) := dk_16 61 (dk_at dksX7_loses_0 11 rfl rfl)
theorem dX7_loses_13 : decode cX7_loses 13 = .ok (.invokevirtual 206, 3) := dk_182 0 206 (dk_at dksX7_loses_0 13 rfl rfl)
theorem dX7_loses_16 : decode cX7_loses 16 = .ok (.goto 4, 3) := dk_167 0 4 (dk_at dksX7_loses_0 16 rfl rfl)
theorem dX7_loses_19 : decode cX7_loses 19 = .ok (.iconst (-1), 1) := dk_2 (dk_at dksX7_loses_0 19 rfl rfl)
theorem dX7_loses_20 : decode cX7_loses 20 = .ok (.ireturn, 1) := dk_172 (dk_at dksX7_loses_0 20 rfl rfl)
abbrev cX7_firstLoss : ByteArray := prog_11_method_44_code
def yX7_firstLoss : MethodName := ⟨RX7, "firstLoss", "(III)I"⟩
def dkwX7_firstLoss_1 : List UInt8 := [182, 0, 191, 42, 180, 0, 142, 28, 160, 0, 6, 21, 4, 172, 132, 4, 1, 167, 255, 228, 16, 252, 172]
abbrev dktX7_firstLoss_1 : List UInt8 := dkwX7_firstLoss_1 ++ []
def dkwX7_firstLoss_0 : List UInt8 := [42, 27, 17, 0, 168, 182, 0, 195, 3, 54, 4, 21, 4, 29, 162, 0, 28, 42, 17, 0, 168, 3]
abbrev dktX7_firstLoss_0 : List UInt8 := dkwX7_firstLoss_0 ++ dktX7_firstLoss_1
theorem dksX7_firstLoss_0 : cX7_firstLoss.data.toList.drop 0 = dktX7_firstLoss_0 := by decide +kernel
theorem dksX7_firstLoss_1 : cX7_firstLoss.data.toList.drop 22 = dktX7_firstLoss_1 := dk_seg dksX7_firstLoss_0 22 rfl rfl
theorem dX7_firstLoss_0 : decode cX7_firstLoss 0 = .ok (.aload_n 0, 1) := dk_42 (dk_at dksX7_firstLoss_0 0 rfl rfl)
theorem dX7_firstLoss_1 : decode cX7_firstLoss 1 = .ok (.iload_n 1, 1) := dk_27 (dk_at dksX7_firstLoss_0 1 rfl rfl)
theorem dX7_firstLoss_2 : decode cX7_firstLoss 2 = .ok (.sipush 168, 3) := dk_17 0 168 (dk_at dksX7_firstLoss_0 2 rfl rfl)
theorem dX7_firstLoss_5 : decode cX7_firstLoss 5 = .ok (.invokevirtual 195, 3) := dk_182 0 195 (dk_at dksX7_firstLoss_0 5 rfl rfl)
theorem dX7_firstLoss_8 : decode cX7_firstLoss 8 = .ok (.iconst 0, 1) := dk_3 (dk_at dksX7_firstLoss_0 8 rfl rfl)
theorem dX7_firstLoss_9 : decode cX7_firstLoss 9 = .ok (.istore 4, 2) := dk_54 4 (dk_at dksX7_firstLoss_0 9 rfl rfl)
theorem dX7_firstLoss_11 : decode cX7_firstLoss 11 = .ok (.iload 4, 2) := dk_21 4 (dk_at dksX7_firstLoss_0 11 rfl rfl)
theorem dX7_firstLoss_13 : decode cX7_firstLoss 13 = .ok (.iload_n 3, 1) := dk_29 (dk_at dksX7_firstLoss_0 13 rfl rfl)
theorem dX7_firstLoss_14 : decode cX7_firstLoss 14 = .ok (.if_icmp .ge 28, 3) := dk_162 0 28 (dk_at dksX7_firstLoss_0 14 rfl rfl)
theorem dX7_firstLoss_17 : decode cX7_firstLoss 17 = .ok (.aload_n 0, 1) := dk_42 (dk_at dksX7_firstLoss_0 17 rfl rfl)
theorem dX7_firstLoss_18 : decode cX7_firstLoss 18 = .ok (.sipush 168, 3) := dk_17 0 168 (dk_at dksX7_firstLoss_0 18 rfl rfl)
theorem dX7_firstLoss_21 : decode cX7_firstLoss 21 = .ok (.iconst 0, 1) := dk_3 (dk_at dksX7_firstLoss_0 21 rfl rfl)
theorem dX7_firstLoss_22 : decode cX7_firstLoss 22 = .ok (.invokevirtual 191, 3) := dk_182 0 191 (dk_at dksX7_firstLoss_1 0 rfl rfl)
theorem dX7_firstLoss_25 : decode cX7_firstLoss 25 = .ok (.aload_n 0, 1) := dk_42 (dk_at dksX7_firstLoss_1 3 rfl rfl)
theorem dX7_firstLoss_26 : decode cX7_firstLoss 26 = .ok (.getfield 142, 3) := dk_180 0 142 (dk_at dksX7_firstLoss_1 4 rfl rfl)
theorem dX7_firstLoss_29 : decode cX7_firstLoss 29 = .ok (.iload_n 2, 1) := dk_28 (dk_at dksX7_firstLoss_1 7 rfl rfl)
theorem dX7_firstLoss_30 : decode cX7_firstLoss 30 = .ok (.if_icmp .ne 6, 3) := dk_160 0 6 (dk_at dksX7_firstLoss_1 8 rfl rfl)
theorem dX7_firstLoss_33 : decode cX7_firstLoss 33 = .ok (.iload 4, 2) := dk_21 4 (dk_at dksX7_firstLoss_1 11 rfl rfl)
theorem dX7_firstLoss_35 : decode cX7_firstLoss 35 = .ok (.ireturn, 1) := dk_172 (dk_at dksX7_firstLoss_1 13 rfl rfl)
theorem dX7_firstLoss_36 : decode cX7_firstLoss 36 = .ok (.iinc 4 1, 3) := dk_132 4 1 (dk_at dksX7_firstLoss_1 14 rfl rfl)
theorem dX7_firstLoss_39 : decode cX7_firstLoss 39 = .ok (.goto (-28), 3) := dk_167 255 228 (dk_at dksX7_firstLoss_1 17 rfl rfl)
theorem dX7_firstLoss_42 : decode cX7_firstLoss 42 = .ok (.bipush (-4), 2) := dk_16 252 (dk_at dksX7_firstLoss_1 20 rfl rfl)
theorem dX7_firstLoss_44 : decode cX7_firstLoss 44 = .ok (.ireturn, 1) := dk_172 (dk_at dksX7_firstLoss_1 22 rfl rfl)
abbrev cX7_order : ByteArray := prog_11_method_47_code
def yX7_order : MethodName := ⟨RX7, "order", "(I)I"⟩
def dkwX7_order_8 : List UInt8 := [162, 0, 15, 42, 180, 0, 29, 27, 16, 10, 100, 46, 167, 0, 5, 16, 252, 172]
abbrev dktX7_order_8 : List UInt8 := dkwX7_order_8 ++ []
def dkwX7_order_7 : List UInt8 := [108, 54, 5, 132, 6, 255, 167, 255, 231, 27, 154, 0, 8, 21, 4, 167, 0, 25, 27, 16, 10, 100, 28]
abbrev dktX7_order_7 : List UInt8 := dkwX7_order_7 ++ dktX7_order_8
def dkwX7_order_6 : List UInt8 := [28, 4, 100, 54, 6, 21, 6, 155, 0, 26, 42, 180, 0, 29, 21, 6, 21, 5, 28, 112, 79, 21, 5, 28]
abbrev dktX7_order_6 : List UInt8 := dkwX7_order_6 ++ dktX7_order_7
def dkwX7_order_5 : List UInt8 := [54, 5, 21, 7, 21, 4, 162, 0, 8, 21, 7, 167, 0, 5, 21, 4, 54, 4, 132, 6, 1, 167, 255, 196]
abbrev dktX7_order_5 : List UInt8 := dkwX7_order_5 ++ dktX7_order_6
def dkwX7_order_4 : List UInt8 := [17, 0, 210, 28, 182, 0, 201, 54, 7, 21, 7, 21, 4, 162, 0, 8, 21, 6, 167, 0, 5, 21, 5]
abbrev dktX7_order_4 : List UInt8 := dkwX7_order_4 ++ dktX7_order_5
def dkwX7_order_3 : List UInt8 := [54, 4, 3, 54, 5, 3, 54, 6, 21, 6, 29, 162, 0, 60, 42, 21, 6, 182, 0, 214, 153, 0, 45, 42]
abbrev dktX7_order_3 : List UInt8 := dkwX7_order_3 ++ dktX7_order_4
def dkwX7_order_2 : List UInt8 := [4, 62, 3, 54, 4, 21, 4, 28, 162, 0, 13, 29, 28, 104, 62, 132, 4, 1, 167, 255, 243, 18, 213]
abbrev dktX7_order_2 : List UInt8 := dkwX7_order_2 ++ dktX7_order_3
def dkwX7_order_1 : List UInt8 := [16, 40, 46, 61, 28, 8, 163, 0, 15, 28, 158, 0, 14, 42, 3, 182, 0, 151, 153, 0, 6, 16, 254, 172]
abbrev dktX7_order_1 : List UInt8 := dkwX7_order_1 ++ dktX7_order_2
def dkwX7_order_0 : List UInt8 := [27, 153, 0, 19, 27, 133, 20, 0, 209, 20, 0, 211, 184, 0, 53, 154, 0, 5, 2, 172, 42, 180, 0, 7]
abbrev dktX7_order_0 : List UInt8 := dkwX7_order_0 ++ dktX7_order_1
theorem dksX7_order_0 : cX7_order.data.toList.drop 0 = dktX7_order_0 := by decide +kernel
theorem dksX7_order_1 : cX7_order.data.toList.drop 24 = dktX7_order_1 := dk_seg dksX7_order_0 24 rfl rfl
theorem dksX7_order_2 : cX7_order.data.toList.drop 48 = dktX7_order_2 := dk_seg dksX7_order_1 24 rfl rfl
theorem dksX7_order_3 : cX7_order.data.toList.drop 71 = dktX7_order_3 := dk_seg dksX7_order_2 23 rfl rfl
theorem dksX7_order_4 : cX7_order.data.toList.drop 95 = dktX7_order_4 := dk_seg dksX7_order_3 24 rfl rfl
theorem dksX7_order_5 : cX7_order.data.toList.drop 118 = dktX7_order_5 := dk_seg dksX7_order_4 23 rfl rfl
theorem dksX7_order_6 : cX7_order.data.toList.drop 142 = dktX7_order_6 := dk_seg dksX7_order_5 24 rfl rfl
theorem dksX7_order_7 : cX7_order.data.toList.drop 166 = dktX7_order_7 := dk_seg dksX7_order_6 24 rfl rfl
theorem dksX7_order_8 : cX7_order.data.toList.drop 189 = dktX7_order_8 := dk_seg dksX7_order_7 23 rfl rfl
theorem dX7_order_0 : decode cX7_order 0 = .ok (.iload_n 1, 1) := dk_27 (dk_at dksX7_order_0 0 rfl rfl)
theorem dX7_order_1 : decode cX7_order 1 = .ok (.ifCond .eq 19, 3) := dk_153 0 19 (dk_at dksX7_order_0 1 rfl rfl)
theorem dX7_order_4 : decode cX7_order 4 = .ok (.iload_n 1, 1) := dk_27 (dk_at dksX7_order_0 4 rfl rfl)
theorem dX7_order_5 : decode cX7_order 5 = .ok (.i2l, 1) := dk_133 (dk_at dksX7_order_0 5 rfl rfl)
theorem dX7_order_6 : decode cX7_order 6 = .ok (.ldc2_w 209, 3) := dk_20 0 209 (dk_at dksX7_order_0 6 rfl rfl)
theorem dX7_order_9 : decode cX7_order 9 = .ok (.ldc2_w 211, 3) := dk_20 0 211 (dk_at dksX7_order_0 9 rfl rfl)
theorem dX7_order_12 : decode cX7_order 12 = .ok (.invokestatic 53, 3) := dk_184 0 53 (dk_at dksX7_order_0 12 rfl rfl)
theorem dX7_order_15 : decode cX7_order 15 = .ok (.ifCond .ne 5, 3) := dk_154 0 5 (dk_at dksX7_order_0 15 rfl rfl)
theorem dX7_order_18 : decode cX7_order 18 = .ok (.iconst (-1), 1) := dk_2 (dk_at dksX7_order_0 18 rfl rfl)
theorem dX7_order_19 : decode cX7_order 19 = .ok (.ireturn, 1) := dk_172 (dk_at dksX7_order_0 19 rfl rfl)
theorem dX7_order_20 : decode cX7_order 20 = .ok (.aload_n 0, 1) := dk_42 (dk_at dksX7_order_0 20 rfl rfl)
theorem dX7_order_21 : decode cX7_order 21 = .ok (.getfield 7, 3) := dk_180 0 7 (dk_at dksX7_order_0 21 rfl rfl)
theorem dX7_order_24 : decode cX7_order 24 = .ok (.bipush 40, 2) := dk_16 40 (dk_at dksX7_order_1 0 rfl rfl)
theorem dX7_order_26 : decode cX7_order 26 = .ok (.iaload, 1) := dk_46 (dk_at dksX7_order_1 2 rfl rfl)
theorem dX7_order_27 : decode cX7_order 27 = .ok (.istore_n 2, 1) := dk_61 (dk_at dksX7_order_1 3 rfl rfl)
theorem dX7_order_28 : decode cX7_order 28 = .ok (.iload_n 2, 1) := dk_28 (dk_at dksX7_order_1 4 rfl rfl)
theorem dX7_order_29 : decode cX7_order 29 = .ok (.iconst 5, 1) := dk_8 (dk_at dksX7_order_1 5 rfl rfl)
theorem dX7_order_30 : decode cX7_order 30 = .ok (.if_icmp .gt 15, 3) := dk_163 0 15 (dk_at dksX7_order_1 6 rfl rfl)
theorem dX7_order_33 : decode cX7_order 33 = .ok (.iload_n 2, 1) := dk_28 (dk_at dksX7_order_1 9 rfl rfl)
theorem dX7_order_34 : decode cX7_order 34 = .ok (.ifCond .le 14, 3) := dk_158 0 14 (dk_at dksX7_order_1 10 rfl rfl)
theorem dX7_order_37 : decode cX7_order 37 = .ok (.aload_n 0, 1) := dk_42 (dk_at dksX7_order_1 13 rfl rfl)
theorem dX7_order_38 : decode cX7_order 38 = .ok (.iconst 0, 1) := dk_3 (dk_at dksX7_order_1 14 rfl rfl)
theorem dX7_order_39 : decode cX7_order 39 = .ok (.invokevirtual 151, 3) := dk_182 0 151 (dk_at dksX7_order_1 15 rfl rfl)
theorem dX7_order_42 : decode cX7_order 42 = .ok (.ifCond .eq 6, 3) := dk_153 0 6 (dk_at dksX7_order_1 18 rfl rfl)
theorem dX7_order_45 : decode cX7_order 45 = .ok (.bipush (-2), 2) := dk_16 254 (dk_at dksX7_order_1 21 rfl rfl)
theorem dX7_order_47 : decode cX7_order 47 = .ok (.ireturn, 1) := dk_172 (dk_at dksX7_order_1 23 rfl rfl)
theorem dX7_order_48 : decode cX7_order 48 = .ok (.iconst 1, 1) := dk_4 (dk_at dksX7_order_2 0 rfl rfl)
theorem dX7_order_49 : decode cX7_order 49 = .ok (.istore_n 3, 1) := dk_62 (dk_at dksX7_order_2 1 rfl rfl)
theorem dX7_order_50 : decode cX7_order 50 = .ok (.iconst 0, 1) := dk_3 (dk_at dksX7_order_2 2 rfl rfl)
theorem dX7_order_51 : decode cX7_order 51 = .ok (.istore 4, 2) := dk_54 4 (dk_at dksX7_order_2 3 rfl rfl)
theorem dX7_order_53 : decode cX7_order 53 = .ok (.iload 4, 2) := dk_21 4 (dk_at dksX7_order_2 5 rfl rfl)
theorem dX7_order_55 : decode cX7_order 55 = .ok (.iload_n 2, 1) := dk_28 (dk_at dksX7_order_2 7 rfl rfl)
theorem dX7_order_56 : decode cX7_order 56 = .ok (.if_icmp .ge 13, 3) := dk_162 0 13 (dk_at dksX7_order_2 8 rfl rfl)
theorem dX7_order_59 : decode cX7_order 59 = .ok (.iload_n 3, 1) := dk_29 (dk_at dksX7_order_2 11 rfl rfl)
theorem dX7_order_60 : decode cX7_order 60 = .ok (.iload_n 2, 1) := dk_28 (dk_at dksX7_order_2 12 rfl rfl)
theorem dX7_order_61 : decode cX7_order 61 = .ok (.imul, 1) := dk_104 (dk_at dksX7_order_2 13 rfl rfl)
theorem dX7_order_62 : decode cX7_order 62 = .ok (.istore_n 3, 1) := dk_62 (dk_at dksX7_order_2 14 rfl rfl)
theorem dX7_order_63 : decode cX7_order 63 = .ok (.iinc 4 1, 3) := dk_132 4 1 (dk_at dksX7_order_2 15 rfl rfl)
theorem dX7_order_66 : decode cX7_order 66 = .ok (.goto (-13), 3) := dk_167 255 243 (dk_at dksX7_order_2 18 rfl rfl)
theorem dX7_order_69 : decode cX7_order 69 = .ok (.ldc 213, 2) := dk_18 213 (dk_at dksX7_order_2 21 rfl rfl)
theorem dX7_order_71 : decode cX7_order 71 = .ok (.istore 4, 2) := dk_54 4 (dk_at dksX7_order_3 0 rfl rfl)
theorem dX7_order_73 : decode cX7_order 73 = .ok (.iconst 0, 1) := dk_3 (dk_at dksX7_order_3 2 rfl rfl)
theorem dX7_order_74 : decode cX7_order 74 = .ok (.istore 5, 2) := dk_54 5 (dk_at dksX7_order_3 3 rfl rfl)
theorem dX7_order_76 : decode cX7_order 76 = .ok (.iconst 0, 1) := dk_3 (dk_at dksX7_order_3 5 rfl rfl)
theorem dX7_order_77 : decode cX7_order 77 = .ok (.istore 6, 2) := dk_54 6 (dk_at dksX7_order_3 6 rfl rfl)
theorem dX7_order_79 : decode cX7_order 79 = .ok (.iload 6, 2) := dk_21 6 (dk_at dksX7_order_3 8 rfl rfl)
theorem dX7_order_81 : decode cX7_order 81 = .ok (.iload_n 3, 1) := dk_29 (dk_at dksX7_order_3 10 rfl rfl)
theorem dX7_order_82 : decode cX7_order 82 = .ok (.if_icmp .ge 60, 3) := dk_162 0 60 (dk_at dksX7_order_3 11 rfl rfl)
theorem dX7_order_85 : decode cX7_order 85 = .ok (.aload_n 0, 1) := dk_42 (dk_at dksX7_order_3 14 rfl rfl)
theorem dX7_order_86 : decode cX7_order 86 = .ok (.iload 6, 2) := dk_21 6 (dk_at dksX7_order_3 15 rfl rfl)
theorem dX7_order_88 : decode cX7_order 88 = .ok (.invokevirtual 214, 3) := dk_182 0 214 (dk_at dksX7_order_3 17 rfl rfl)
theorem dX7_order_91 : decode cX7_order 91 = .ok (.ifCond .eq 45, 3) := dk_153 0 45 (dk_at dksX7_order_3 20 rfl rfl)
theorem dX7_order_94 : decode cX7_order 94 = .ok (.aload_n 0, 1) := dk_42 (dk_at dksX7_order_3 23 rfl rfl)
theorem dX7_order_95 : decode cX7_order 95 = .ok (.sipush 210, 3) := dk_17 0 210 (dk_at dksX7_order_4 0 rfl rfl)
theorem dX7_order_98 : decode cX7_order 98 = .ok (.iload_n 2, 1) := dk_28 (dk_at dksX7_order_4 3 rfl rfl)
theorem dX7_order_99 : decode cX7_order 99 = .ok (.invokevirtual 201, 3) := dk_182 0 201 (dk_at dksX7_order_4 4 rfl rfl)
theorem dX7_order_102 : decode cX7_order 102 = .ok (.istore 7, 2) := dk_54 7 (dk_at dksX7_order_4 7 rfl rfl)
theorem dX7_order_104 : decode cX7_order 104 = .ok (.iload 7, 2) := dk_21 7 (dk_at dksX7_order_4 9 rfl rfl)
theorem dX7_order_106 : decode cX7_order 106 = .ok (.iload 4, 2) := dk_21 4 (dk_at dksX7_order_4 11 rfl rfl)
theorem dX7_order_108 : decode cX7_order 108 = .ok (.if_icmp .ge 8, 3) := dk_162 0 8 (dk_at dksX7_order_4 13 rfl rfl)
theorem dX7_order_111 : decode cX7_order 111 = .ok (.iload 6, 2) := dk_21 6 (dk_at dksX7_order_4 16 rfl rfl)
theorem dX7_order_113 : decode cX7_order 113 = .ok (.goto 5, 3) := dk_167 0 5 (dk_at dksX7_order_4 18 rfl rfl)
theorem dX7_order_116 : decode cX7_order 116 = .ok (.iload 5, 2) := dk_21 5 (dk_at dksX7_order_4 21 rfl rfl)
theorem dX7_order_118 : decode cX7_order 118 = .ok (.istore 5, 2) := dk_54 5 (dk_at dksX7_order_5 0 rfl rfl)
theorem dX7_order_120 : decode cX7_order 120 = .ok (.iload 7, 2) := dk_21 7 (dk_at dksX7_order_5 2 rfl rfl)
theorem dX7_order_122 : decode cX7_order 122 = .ok (.iload 4, 2) := dk_21 4 (dk_at dksX7_order_5 4 rfl rfl)
theorem dX7_order_124 : decode cX7_order 124 = .ok (.if_icmp .ge 8, 3) := dk_162 0 8 (dk_at dksX7_order_5 6 rfl rfl)
theorem dX7_order_127 : decode cX7_order 127 = .ok (.iload 7, 2) := dk_21 7 (dk_at dksX7_order_5 9 rfl rfl)
theorem dX7_order_129 : decode cX7_order 129 = .ok (.goto 5, 3) := dk_167 0 5 (dk_at dksX7_order_5 11 rfl rfl)
theorem dX7_order_132 : decode cX7_order 132 = .ok (.iload 4, 2) := dk_21 4 (dk_at dksX7_order_5 14 rfl rfl)
theorem dX7_order_134 : decode cX7_order 134 = .ok (.istore 4, 2) := dk_54 4 (dk_at dksX7_order_5 16 rfl rfl)
theorem dX7_order_136 : decode cX7_order 136 = .ok (.iinc 6 1, 3) := dk_132 6 1 (dk_at dksX7_order_5 18 rfl rfl)
theorem dX7_order_139 : decode cX7_order 139 = .ok (.goto (-60), 3) := dk_167 255 196 (dk_at dksX7_order_5 21 rfl rfl)
theorem dX7_order_142 : decode cX7_order 142 = .ok (.iload_n 2, 1) := dk_28 (dk_at dksX7_order_6 0 rfl rfl)
theorem dX7_order_143 : decode cX7_order 143 = .ok (.iconst 1, 1) := dk_4 (dk_at dksX7_order_6 1 rfl rfl)
theorem dX7_order_144 : decode cX7_order 144 = .ok (.isub, 1) := dk_100 (dk_at dksX7_order_6 2 rfl rfl)
theorem dX7_order_145 : decode cX7_order 145 = .ok (.istore 6, 2) := dk_54 6 (dk_at dksX7_order_6 3 rfl rfl)
theorem dX7_order_147 : decode cX7_order 147 = .ok (.iload 6, 2) := dk_21 6 (dk_at dksX7_order_6 5 rfl rfl)
theorem dX7_order_149 : decode cX7_order 149 = .ok (.ifCond .lt 26, 3) := dk_155 0 26 (dk_at dksX7_order_6 7 rfl rfl)
theorem dX7_order_152 : decode cX7_order 152 = .ok (.aload_n 0, 1) := dk_42 (dk_at dksX7_order_6 10 rfl rfl)
theorem dX7_order_153 : decode cX7_order 153 = .ok (.getfield 29, 3) := dk_180 0 29 (dk_at dksX7_order_6 11 rfl rfl)
theorem dX7_order_156 : decode cX7_order 156 = .ok (.iload 6, 2) := dk_21 6 (dk_at dksX7_order_6 14 rfl rfl)
theorem dX7_order_158 : decode cX7_order 158 = .ok (.iload 5, 2) := dk_21 5 (dk_at dksX7_order_6 16 rfl rfl)
theorem dX7_order_160 : decode cX7_order 160 = .ok (.iload_n 2, 1) := dk_28 (dk_at dksX7_order_6 18 rfl rfl)
theorem dX7_order_161 : decode cX7_order 161 = .ok (.irem, 1) := dk_112 (dk_at dksX7_order_6 19 rfl rfl)
theorem dX7_order_162 : decode cX7_order 162 = .ok (.iastore, 1) := dk_79 (dk_at dksX7_order_6 20 rfl rfl)
theorem dX7_order_163 : decode cX7_order 163 = .ok (.iload 5, 2) := dk_21 5 (dk_at dksX7_order_6 21 rfl rfl)
theorem dX7_order_165 : decode cX7_order 165 = .ok (.iload_n 2, 1) := dk_28 (dk_at dksX7_order_6 23 rfl rfl)
theorem dX7_order_166 : decode cX7_order 166 = .ok (.idiv, 1) := dk_108 (dk_at dksX7_order_7 0 rfl rfl)
theorem dX7_order_167 : decode cX7_order 167 = .ok (.istore 5, 2) := dk_54 5 (dk_at dksX7_order_7 1 rfl rfl)
theorem dX7_order_169 : decode cX7_order 169 = .ok (.iinc 6 (-1), 3) := dk_132 6 255 (dk_at dksX7_order_7 3 rfl rfl)
theorem dX7_order_172 : decode cX7_order 172 = .ok (.goto (-25), 3) := dk_167 255 231 (dk_at dksX7_order_7 6 rfl rfl)
theorem dX7_order_175 : decode cX7_order 175 = .ok (.iload_n 1, 1) := dk_27 (dk_at dksX7_order_7 9 rfl rfl)
theorem dX7_order_176 : decode cX7_order 176 = .ok (.ifCond .ne 8, 3) := dk_154 0 8 (dk_at dksX7_order_7 10 rfl rfl)
theorem dX7_order_179 : decode cX7_order 179 = .ok (.iload 4, 2) := dk_21 4 (dk_at dksX7_order_7 13 rfl rfl)
theorem dX7_order_181 : decode cX7_order 181 = .ok (.goto 25, 3) := dk_167 0 25 (dk_at dksX7_order_7 15 rfl rfl)
theorem dX7_order_184 : decode cX7_order 184 = .ok (.iload_n 1, 1) := dk_27 (dk_at dksX7_order_7 18 rfl rfl)
theorem dX7_order_185 : decode cX7_order 185 = .ok (.bipush 10, 2) := dk_16 10 (dk_at dksX7_order_7 19 rfl rfl)
theorem dX7_order_187 : decode cX7_order 187 = .ok (.isub, 1) := dk_100 (dk_at dksX7_order_7 21 rfl rfl)
theorem dX7_order_188 : decode cX7_order 188 = .ok (.iload_n 2, 1) := dk_28 (dk_at dksX7_order_7 22 rfl rfl)
theorem dX7_order_189 : decode cX7_order 189 = .ok (.if_icmp .ge 15, 3) := dk_162 0 15 (dk_at dksX7_order_8 0 rfl rfl)
theorem dX7_order_192 : decode cX7_order 192 = .ok (.aload_n 0, 1) := dk_42 (dk_at dksX7_order_8 3 rfl rfl)
theorem dX7_order_193 : decode cX7_order 193 = .ok (.getfield 29, 3) := dk_180 0 29 (dk_at dksX7_order_8 4 rfl rfl)
theorem dX7_order_196 : decode cX7_order 196 = .ok (.iload_n 1, 1) := dk_27 (dk_at dksX7_order_8 7 rfl rfl)
theorem dX7_order_197 : decode cX7_order 197 = .ok (.bipush 10, 2) := dk_16 10 (dk_at dksX7_order_8 8 rfl rfl)
theorem dX7_order_199 : decode cX7_order 199 = .ok (.isub, 1) := dk_100 (dk_at dksX7_order_8 10 rfl rfl)
theorem dX7_order_200 : decode cX7_order 200 = .ok (.iaload, 1) := dk_46 (dk_at dksX7_order_8 11 rfl rfl)
theorem dX7_order_201 : decode cX7_order 201 = .ok (.goto 5, 3) := dk_167 0 5 (dk_at dksX7_order_8 12 rfl rfl)
theorem dX7_order_204 : decode cX7_order 204 = .ok (.bipush (-4), 2) := dk_16 252 (dk_at dksX7_order_8 15 rfl rfl)
theorem dX7_order_206 : decode cX7_order 206 = .ok (.ireturn, 1) := dk_172 (dk_at dksX7_order_8 17 rfl rfl)
abbrev cX7_ordered : ByteArray := prog_11_method_46_code
def yX7_ordered : MethodName := ⟨RX7, "ordered", "(I)Z"⟩
def dkwX7_ordered_4 : List UInt8 := [167, 255, 187, 29, 4, 28, 120, 4, 100, 160, 0, 7, 4, 167, 0, 4, 3, 172]
abbrev dktX7_ordered_4 : List UInt8 := dkwX7_ordered_4 ++ []
def dkwX7_ordered_3 : List UInt8 := [21, 5, 96, 42, 180, 0, 7, 16, 30, 21, 6, 96, 46, 79, 21, 4, 28, 108, 54, 4, 132, 5, 255]
abbrev dktX7_ordered_3 : List UInt8 := dkwX7_ordered_3 ++ dktX7_ordered_4
def dkwX7_ordered_2 : List UInt8 := [17, 0, 230, 21, 5, 96, 42, 180, 0, 7, 16, 20, 21, 6, 96, 46, 79, 42, 180, 0, 7, 17, 0, 240]
abbrev dktX7_ordered_2 : List UInt8 := dkwX7_ordered_2 ++ dktX7_ordered_3
def dkwX7_ordered_1 : List UInt8 := [54, 5, 21, 5, 155, 0, 70, 21, 4, 28, 112, 54, 6, 29, 4, 21, 6, 120, 128, 62, 42, 180, 0, 7]
abbrev dktX7_ordered_1 : List UInt8 := dkwX7_ordered_1 ++ dktX7_ordered_2
def dkwX7_ordered_0 : List UInt8 := [42, 180, 0, 7, 16, 40, 46, 61, 3, 62, 27, 54, 4, 42, 3, 17, 0, 210, 182, 0, 195, 28, 4, 100]
abbrev dktX7_ordered_0 : List UInt8 := dkwX7_ordered_0 ++ dktX7_ordered_1
theorem dksX7_ordered_0 : cX7_ordered.data.toList.drop 0 = dktX7_ordered_0 := by decide +kernel
theorem dksX7_ordered_1 : cX7_ordered.data.toList.drop 24 = dktX7_ordered_1 := dk_seg dksX7_ordered_0 24 rfl rfl
theorem dksX7_ordered_2 : cX7_ordered.data.toList.drop 48 = dktX7_ordered_2 := dk_seg dksX7_ordered_1 24 rfl rfl
theorem dksX7_ordered_3 : cX7_ordered.data.toList.drop 72 = dktX7_ordered_3 := dk_seg dksX7_ordered_2 24 rfl rfl
theorem dksX7_ordered_4 : cX7_ordered.data.toList.drop 95 = dktX7_ordered_4 := dk_seg dksX7_ordered_3 23 rfl rfl
theorem dX7_ordered_0 : decode cX7_ordered 0 = .ok (.aload_n 0, 1) := dk_42 (dk_at dksX7_ordered_0 0 rfl rfl)
theorem dX7_ordered_1 : decode cX7_ordered 1 = .ok (.getfield 7, 3) := dk_180 0 7 (dk_at dksX7_ordered_0 1 rfl rfl)
theorem dX7_ordered_4 : decode cX7_ordered 4 = .ok (.bipush 40, 2) := dk_16 40 (dk_at dksX7_ordered_0 4 rfl rfl)
theorem dX7_ordered_6 : decode cX7_ordered 6 = .ok (.iaload, 1) := dk_46 (dk_at dksX7_ordered_0 6 rfl rfl)
theorem dX7_ordered_7 : decode cX7_ordered 7 = .ok (.istore_n 2, 1) := dk_61 (dk_at dksX7_ordered_0 7 rfl rfl)
theorem dX7_ordered_8 : decode cX7_ordered 8 = .ok (.iconst 0, 1) := dk_3 (dk_at dksX7_ordered_0 8 rfl rfl)
theorem dX7_ordered_9 : decode cX7_ordered 9 = .ok (.istore_n 3, 1) := dk_62 (dk_at dksX7_ordered_0 9 rfl rfl)
theorem dX7_ordered_10 : decode cX7_ordered 10 = .ok (.iload_n 1, 1) := dk_27 (dk_at dksX7_ordered_0 10 rfl rfl)
theorem dX7_ordered_11 : decode cX7_ordered 11 = .ok (.istore 4, 2) := dk_54 4 (dk_at dksX7_ordered_0 11 rfl rfl)
theorem dX7_ordered_13 : decode cX7_ordered 13 = .ok (.aload_n 0, 1) := dk_42 (dk_at dksX7_ordered_0 13 rfl rfl)
theorem dX7_ordered_14 : decode cX7_ordered 14 = .ok (.iconst 0, 1) := dk_3 (dk_at dksX7_ordered_0 14 rfl rfl)
theorem dX7_ordered_15 : decode cX7_ordered 15 = .ok (.sipush 210, 3) := dk_17 0 210 (dk_at dksX7_ordered_0 15 rfl rfl)
theorem dX7_ordered_18 : decode cX7_ordered 18 = .ok (.invokevirtual 195, 3) := dk_182 0 195 (dk_at dksX7_ordered_0 18 rfl rfl)
theorem dX7_ordered_21 : decode cX7_ordered 21 = .ok (.iload_n 2, 1) := dk_28 (dk_at dksX7_ordered_0 21 rfl rfl)
theorem dX7_ordered_22 : decode cX7_ordered 22 = .ok (.iconst 1, 1) := dk_4 (dk_at dksX7_ordered_0 22 rfl rfl)
theorem dX7_ordered_23 : decode cX7_ordered 23 = .ok (.isub, 1) := dk_100 (dk_at dksX7_ordered_0 23 rfl rfl)
theorem dX7_ordered_24 : decode cX7_ordered 24 = .ok (.istore 5, 2) := dk_54 5 (dk_at dksX7_ordered_1 0 rfl rfl)
theorem dX7_ordered_26 : decode cX7_ordered 26 = .ok (.iload 5, 2) := dk_21 5 (dk_at dksX7_ordered_1 2 rfl rfl)
theorem dX7_ordered_28 : decode cX7_ordered 28 = .ok (.ifCond .lt 70, 3) := dk_155 0 70 (dk_at dksX7_ordered_1 4 rfl rfl)
theorem dX7_ordered_31 : decode cX7_ordered 31 = .ok (.iload 4, 2) := dk_21 4 (dk_at dksX7_ordered_1 7 rfl rfl)
theorem dX7_ordered_33 : decode cX7_ordered 33 = .ok (.iload_n 2, 1) := dk_28 (dk_at dksX7_ordered_1 9 rfl rfl)
theorem dX7_ordered_34 : decode cX7_ordered 34 = .ok (.irem, 1) := dk_112 (dk_at dksX7_ordered_1 10 rfl rfl)
theorem dX7_ordered_35 : decode cX7_ordered 35 = .ok (.istore 6, 2) := dk_54 6 (dk_at dksX7_ordered_1 11 rfl rfl)
theorem dX7_ordered_37 : decode cX7_ordered 37 = .ok (.iload_n 3, 1) := dk_29 (dk_at dksX7_ordered_1 13 rfl rfl)
theorem dX7_ordered_38 : decode cX7_ordered 38 = .ok (.iconst 1, 1) := dk_4 (dk_at dksX7_ordered_1 14 rfl rfl)
theorem dX7_ordered_39 : decode cX7_ordered 39 = .ok (.iload 6, 2) := dk_21 6 (dk_at dksX7_ordered_1 15 rfl rfl)
theorem dX7_ordered_41 : decode cX7_ordered 41 = .ok (.ishl, 1) := dk_120 (dk_at dksX7_ordered_1 17 rfl rfl)
theorem dX7_ordered_42 : decode cX7_ordered 42 = .ok (.ior, 1) := dk_128 (dk_at dksX7_ordered_1 18 rfl rfl)
theorem dX7_ordered_43 : decode cX7_ordered 43 = .ok (.istore_n 3, 1) := dk_62 (dk_at dksX7_ordered_1 19 rfl rfl)
theorem dX7_ordered_44 : decode cX7_ordered 44 = .ok (.aload_n 0, 1) := dk_42 (dk_at dksX7_ordered_1 20 rfl rfl)
theorem dX7_ordered_45 : decode cX7_ordered 45 = .ok (.getfield 7, 3) := dk_180 0 7 (dk_at dksX7_ordered_1 21 rfl rfl)
theorem dX7_ordered_48 : decode cX7_ordered 48 = .ok (.sipush 230, 3) := dk_17 0 230 (dk_at dksX7_ordered_2 0 rfl rfl)
theorem dX7_ordered_51 : decode cX7_ordered 51 = .ok (.iload 5, 2) := dk_21 5 (dk_at dksX7_ordered_2 3 rfl rfl)
theorem dX7_ordered_53 : decode cX7_ordered 53 = .ok (.iadd, 1) := dk_96 (dk_at dksX7_ordered_2 5 rfl rfl)
theorem dX7_ordered_54 : decode cX7_ordered 54 = .ok (.aload_n 0, 1) := dk_42 (dk_at dksX7_ordered_2 6 rfl rfl)
theorem dX7_ordered_55 : decode cX7_ordered 55 = .ok (.getfield 7, 3) := dk_180 0 7 (dk_at dksX7_ordered_2 7 rfl rfl)
theorem dX7_ordered_58 : decode cX7_ordered 58 = .ok (.bipush 20, 2) := dk_16 20 (dk_at dksX7_ordered_2 10 rfl rfl)
theorem dX7_ordered_60 : decode cX7_ordered 60 = .ok (.iload 6, 2) := dk_21 6 (dk_at dksX7_ordered_2 12 rfl rfl)
theorem dX7_ordered_62 : decode cX7_ordered 62 = .ok (.iadd, 1) := dk_96 (dk_at dksX7_ordered_2 14 rfl rfl)
theorem dX7_ordered_63 : decode cX7_ordered 63 = .ok (.iaload, 1) := dk_46 (dk_at dksX7_ordered_2 15 rfl rfl)
theorem dX7_ordered_64 : decode cX7_ordered 64 = .ok (.iastore, 1) := dk_79 (dk_at dksX7_ordered_2 16 rfl rfl)
theorem dX7_ordered_65 : decode cX7_ordered 65 = .ok (.aload_n 0, 1) := dk_42 (dk_at dksX7_ordered_2 17 rfl rfl)
theorem dX7_ordered_66 : decode cX7_ordered 66 = .ok (.getfield 7, 3) := dk_180 0 7 (dk_at dksX7_ordered_2 18 rfl rfl)
theorem dX7_ordered_69 : decode cX7_ordered 69 = .ok (.sipush 240, 3) := dk_17 0 240 (dk_at dksX7_ordered_2 21 rfl rfl)
theorem dX7_ordered_72 : decode cX7_ordered 72 = .ok (.iload 5, 2) := dk_21 5 (dk_at dksX7_ordered_3 0 rfl rfl)
theorem dX7_ordered_74 : decode cX7_ordered 74 = .ok (.iadd, 1) := dk_96 (dk_at dksX7_ordered_3 2 rfl rfl)
theorem dX7_ordered_75 : decode cX7_ordered 75 = .ok (.aload_n 0, 1) := dk_42 (dk_at dksX7_ordered_3 3 rfl rfl)
theorem dX7_ordered_76 : decode cX7_ordered 76 = .ok (.getfield 7, 3) := dk_180 0 7 (dk_at dksX7_ordered_3 4 rfl rfl)
theorem dX7_ordered_79 : decode cX7_ordered 79 = .ok (.bipush 30, 2) := dk_16 30 (dk_at dksX7_ordered_3 7 rfl rfl)
theorem dX7_ordered_81 : decode cX7_ordered 81 = .ok (.iload 6, 2) := dk_21 6 (dk_at dksX7_ordered_3 9 rfl rfl)
theorem dX7_ordered_83 : decode cX7_ordered 83 = .ok (.iadd, 1) := dk_96 (dk_at dksX7_ordered_3 11 rfl rfl)
theorem dX7_ordered_84 : decode cX7_ordered 84 = .ok (.iaload, 1) := dk_46 (dk_at dksX7_ordered_3 12 rfl rfl)
theorem dX7_ordered_85 : decode cX7_ordered 85 = .ok (.iastore, 1) := dk_79 (dk_at dksX7_ordered_3 13 rfl rfl)
theorem dX7_ordered_86 : decode cX7_ordered 86 = .ok (.iload 4, 2) := dk_21 4 (dk_at dksX7_ordered_3 14 rfl rfl)
theorem dX7_ordered_88 : decode cX7_ordered 88 = .ok (.iload_n 2, 1) := dk_28 (dk_at dksX7_ordered_3 16 rfl rfl)
theorem dX7_ordered_89 : decode cX7_ordered 89 = .ok (.idiv, 1) := dk_108 (dk_at dksX7_ordered_3 17 rfl rfl)
theorem dX7_ordered_90 : decode cX7_ordered 90 = .ok (.istore 4, 2) := dk_54 4 (dk_at dksX7_ordered_3 18 rfl rfl)
theorem dX7_ordered_92 : decode cX7_ordered 92 = .ok (.iinc 5 (-1), 3) := dk_132 5 255 (dk_at dksX7_ordered_3 20 rfl rfl)
theorem dX7_ordered_95 : decode cX7_ordered 95 = .ok (.goto (-69), 3) := dk_167 255 187 (dk_at dksX7_ordered_4 0 rfl rfl)
theorem dX7_ordered_98 : decode cX7_ordered 98 = .ok (.iload_n 3, 1) := dk_29 (dk_at dksX7_ordered_4 3 rfl rfl)
theorem dX7_ordered_99 : decode cX7_ordered 99 = .ok (.iconst 1, 1) := dk_4 (dk_at dksX7_ordered_4 4 rfl rfl)
theorem dX7_ordered_100 : decode cX7_ordered 100 = .ok (.iload_n 2, 1) := dk_28 (dk_at dksX7_ordered_4 5 rfl rfl)
theorem dX7_ordered_101 : decode cX7_ordered 101 = .ok (.ishl, 1) := dk_120 (dk_at dksX7_ordered_4 6 rfl rfl)
theorem dX7_ordered_102 : decode cX7_ordered 102 = .ok (.iconst 1, 1) := dk_4 (dk_at dksX7_ordered_4 7 rfl rfl)
theorem dX7_ordered_103 : decode cX7_ordered 103 = .ok (.isub, 1) := dk_100 (dk_at dksX7_ordered_4 8 rfl rfl)
theorem dX7_ordered_104 : decode cX7_ordered 104 = .ok (.if_icmp .ne 7, 3) := dk_160 0 7 (dk_at dksX7_ordered_4 9 rfl rfl)
theorem dX7_ordered_107 : decode cX7_ordered 107 = .ok (.iconst 1, 1) := dk_4 (dk_at dksX7_ordered_4 12 rfl rfl)
theorem dX7_ordered_108 : decode cX7_ordered 108 = .ok (.goto 4, 3) := dk_167 0 4 (dk_at dksX7_ordered_4 13 rfl rfl)
theorem dX7_ordered_111 : decode cX7_ordered 111 = .ok (.iconst 0, 1) := dk_3 (dk_at dksX7_ordered_4 16 rfl rfl)
theorem dX7_ordered_112 : decode cX7_ordered 112 = .ok (.ireturn, 1) := dk_172 (dk_at dksX7_ordered_4 17 rfl rfl)
abbrev cX7_loan : ByteArray := prog_11_method_48_code
def yX7_loan : MethodName := ⟨RX7, "loan", "(II)I"⟩
def dkwX7_loan_6 : List UInt8 := [167, 255, 152, 21, 4, 16, 252, 159, 0, 7, 28, 154, 0, 8, 21, 4, 167, 0, 4, 29, 172]
abbrev dktX7_loan_6 : List UInt8 := dkwX7_loan_6 ++ []
def dkwX7_loan_5 : List UInt8 := [54, 4, 21, 7, 29, 162, 0, 8, 21, 7, 167, 0, 4, 29, 62, 132, 6, 1, 167, 255, 170, 132, 5, 1]
abbrev dktX7_loan_5 : List UInt8 := dkwX7_loan_5 ++ dktX7_loan_6
def dkwX7_loan_4 : List UInt8 := [182, 0, 201, 54, 7, 21, 7, 29, 162, 0, 14, 16, 10, 21, 5, 104, 21, 6, 96, 167, 0, 5, 21, 4]
abbrev dktX7_loan_4 : List UInt8 := dkwX7_loan_4 ++ dktX7_loan_5
def dkwX7_loan_3 : List UInt8 := [159, 0, 62, 42, 17, 0, 210, 21, 5, 21, 6, 4, 182, 0, 182, 155, 0, 47, 42, 17, 0, 210, 27]
abbrev dktX7_loan_3 : List UInt8 := dkwX7_loan_3 ++ dktX7_loan_4
def dkwX7_loan_2 : List UInt8 := [54, 6, 21, 6, 42, 180, 0, 125, 162, 0, 83, 42, 3, 17, 0, 210, 182, 0, 195, 21, 5, 21, 6]
abbrev dktX7_loan_2 : List UInt8 := dkwX7_loan_2 ++ dktX7_loan_3
def dkwX7_loan_1 : List UInt8 := [42, 3, 27, 182, 0, 201, 62, 16, 252, 54, 4, 3, 54, 5, 21, 5, 42, 180, 0, 125, 162, 0, 101, 3]
abbrev dktX7_loan_1 : List UInt8 := dkwX7_loan_1 ++ dktX7_loan_2
def dkwX7_loan_0 : List UInt8 := [27, 133, 9, 20, 0, 199, 184, 0, 53, 153, 0, 13, 28, 133, 9, 10, 184, 0, 53, 154, 0, 5, 2, 172]
abbrev dktX7_loan_0 : List UInt8 := dkwX7_loan_0 ++ dktX7_loan_1
theorem dksX7_loan_0 : cX7_loan.data.toList.drop 0 = dktX7_loan_0 := by decide +kernel
theorem dksX7_loan_1 : cX7_loan.data.toList.drop 24 = dktX7_loan_1 := dk_seg dksX7_loan_0 24 rfl rfl
theorem dksX7_loan_2 : cX7_loan.data.toList.drop 48 = dktX7_loan_2 := dk_seg dksX7_loan_1 24 rfl rfl
theorem dksX7_loan_3 : cX7_loan.data.toList.drop 71 = dktX7_loan_3 := dk_seg dksX7_loan_2 23 rfl rfl
theorem dksX7_loan_4 : cX7_loan.data.toList.drop 94 = dktX7_loan_4 := dk_seg dksX7_loan_3 23 rfl rfl
theorem dksX7_loan_5 : cX7_loan.data.toList.drop 118 = dktX7_loan_5 := dk_seg dksX7_loan_4 24 rfl rfl
theorem dksX7_loan_6 : cX7_loan.data.toList.drop 142 = dktX7_loan_6 := dk_seg dksX7_loan_5 24 rfl rfl
theorem dX7_loan_0 : decode cX7_loan 0 = .ok (.iload_n 1, 1) := dk_27 (dk_at dksX7_loan_0 0 rfl rfl)
theorem dX7_loan_1 : decode cX7_loan 1 = .ok (.i2l, 1) := dk_133 (dk_at dksX7_loan_0 1 rfl rfl)
theorem dX7_loan_2 : decode cX7_loan 2 = .ok (.lconst 0, 1) := dk_9 (dk_at dksX7_loan_0 2 rfl rfl)
theorem dX7_loan_3 : decode cX7_loan 3 = .ok (.ldc2_w 199, 3) := dk_20 0 199 (dk_at dksX7_loan_0 3 rfl rfl)
theorem dX7_loan_6 : decode cX7_loan 6 = .ok (.invokestatic 53, 3) := dk_184 0 53 (dk_at dksX7_loan_0 6 rfl rfl)
theorem dX7_loan_9 : decode cX7_loan 9 = .ok (.ifCond .eq 13, 3) := dk_153 0 13 (dk_at dksX7_loan_0 9 rfl rfl)
theorem dX7_loan_12 : decode cX7_loan 12 = .ok (.iload_n 2, 1) := dk_28 (dk_at dksX7_loan_0 12 rfl rfl)
theorem dX7_loan_13 : decode cX7_loan 13 = .ok (.i2l, 1) := dk_133 (dk_at dksX7_loan_0 13 rfl rfl)
theorem dX7_loan_14 : decode cX7_loan 14 = .ok (.lconst 0, 1) := dk_9 (dk_at dksX7_loan_0 14 rfl rfl)
theorem dX7_loan_15 : decode cX7_loan 15 = .ok (.lconst 1, 1) := dk_10 (dk_at dksX7_loan_0 15 rfl rfl)
theorem dX7_loan_16 : decode cX7_loan 16 = .ok (.invokestatic 53, 3) := dk_184 0 53 (dk_at dksX7_loan_0 16 rfl rfl)
theorem dX7_loan_19 : decode cX7_loan 19 = .ok (.ifCond .ne 5, 3) := dk_154 0 5 (dk_at dksX7_loan_0 19 rfl rfl)
theorem dX7_loan_22 : decode cX7_loan 22 = .ok (.iconst (-1), 1) := dk_2 (dk_at dksX7_loan_0 22 rfl rfl)
theorem dX7_loan_23 : decode cX7_loan 23 = .ok (.ireturn, 1) := dk_172 (dk_at dksX7_loan_0 23 rfl rfl)
theorem dX7_loan_24 : decode cX7_loan 24 = .ok (.aload_n 0, 1) := dk_42 (dk_at dksX7_loan_1 0 rfl rfl)
theorem dX7_loan_25 : decode cX7_loan 25 = .ok (.iconst 0, 1) := dk_3 (dk_at dksX7_loan_1 1 rfl rfl)
theorem dX7_loan_26 : decode cX7_loan 26 = .ok (.iload_n 1, 1) := dk_27 (dk_at dksX7_loan_1 2 rfl rfl)
theorem dX7_loan_27 : decode cX7_loan 27 = .ok (.invokevirtual 201, 3) := dk_182 0 201 (dk_at dksX7_loan_1 3 rfl rfl)
theorem dX7_loan_30 : decode cX7_loan 30 = .ok (.istore_n 3, 1) := dk_62 (dk_at dksX7_loan_1 6 rfl rfl)
theorem dX7_loan_31 : decode cX7_loan 31 = .ok (.bipush (-4), 2) := dk_16 252 (dk_at dksX7_loan_1 7 rfl rfl)
theorem dX7_loan_33 : decode cX7_loan 33 = .ok (.istore 4, 2) := dk_54 4 (dk_at dksX7_loan_1 9 rfl rfl)
theorem dX7_loan_35 : decode cX7_loan 35 = .ok (.iconst 0, 1) := dk_3 (dk_at dksX7_loan_1 11 rfl rfl)
theorem dX7_loan_36 : decode cX7_loan 36 = .ok (.istore 5, 2) := dk_54 5 (dk_at dksX7_loan_1 12 rfl rfl)
theorem dX7_loan_38 : decode cX7_loan 38 = .ok (.iload 5, 2) := dk_21 5 (dk_at dksX7_loan_1 14 rfl rfl)
theorem dX7_loan_40 : decode cX7_loan 40 = .ok (.aload_n 0, 1) := dk_42 (dk_at dksX7_loan_1 16 rfl rfl)
theorem dX7_loan_41 : decode cX7_loan 41 = .ok (.getfield 125, 3) := dk_180 0 125 (dk_at dksX7_loan_1 17 rfl rfl)
theorem dX7_loan_44 : decode cX7_loan 44 = .ok (.if_icmp .ge 101, 3) := dk_162 0 101 (dk_at dksX7_loan_1 20 rfl rfl)
theorem dX7_loan_47 : decode cX7_loan 47 = .ok (.iconst 0, 1) := dk_3 (dk_at dksX7_loan_1 23 rfl rfl)
theorem dX7_loan_48 : decode cX7_loan 48 = .ok (.istore 6, 2) := dk_54 6 (dk_at dksX7_loan_2 0 rfl rfl)
theorem dX7_loan_50 : decode cX7_loan 50 = .ok (.iload 6, 2) := dk_21 6 (dk_at dksX7_loan_2 2 rfl rfl)
theorem dX7_loan_52 : decode cX7_loan 52 = .ok (.aload_n 0, 1) := dk_42 (dk_at dksX7_loan_2 4 rfl rfl)
theorem dX7_loan_53 : decode cX7_loan 53 = .ok (.getfield 125, 3) := dk_180 0 125 (dk_at dksX7_loan_2 5 rfl rfl)
theorem dX7_loan_56 : decode cX7_loan 56 = .ok (.if_icmp .ge 83, 3) := dk_162 0 83 (dk_at dksX7_loan_2 8 rfl rfl)
theorem dX7_loan_59 : decode cX7_loan 59 = .ok (.aload_n 0, 1) := dk_42 (dk_at dksX7_loan_2 11 rfl rfl)
theorem dX7_loan_60 : decode cX7_loan 60 = .ok (.iconst 0, 1) := dk_3 (dk_at dksX7_loan_2 12 rfl rfl)
theorem dX7_loan_61 : decode cX7_loan 61 = .ok (.sipush 210, 3) := dk_17 0 210 (dk_at dksX7_loan_2 13 rfl rfl)
theorem dX7_loan_64 : decode cX7_loan 64 = .ok (.invokevirtual 195, 3) := dk_182 0 195 (dk_at dksX7_loan_2 16 rfl rfl)
theorem dX7_loan_67 : decode cX7_loan 67 = .ok (.iload 5, 2) := dk_21 5 (dk_at dksX7_loan_2 19 rfl rfl)
theorem dX7_loan_69 : decode cX7_loan 69 = .ok (.iload 6, 2) := dk_21 6 (dk_at dksX7_loan_2 21 rfl rfl)
theorem dX7_loan_71 : decode cX7_loan 71 = .ok (.if_icmp .eq 62, 3) := dk_159 0 62 (dk_at dksX7_loan_3 0 rfl rfl)
theorem dX7_loan_74 : decode cX7_loan 74 = .ok (.aload_n 0, 1) := dk_42 (dk_at dksX7_loan_3 3 rfl rfl)
theorem dX7_loan_75 : decode cX7_loan 75 = .ok (.sipush 210, 3) := dk_17 0 210 (dk_at dksX7_loan_3 4 rfl rfl)
theorem dX7_loan_78 : decode cX7_loan 78 = .ok (.iload 5, 2) := dk_21 5 (dk_at dksX7_loan_3 7 rfl rfl)
theorem dX7_loan_80 : decode cX7_loan 80 = .ok (.iload 6, 2) := dk_21 6 (dk_at dksX7_loan_3 9 rfl rfl)
theorem dX7_loan_82 : decode cX7_loan 82 = .ok (.iconst 1, 1) := dk_4 (dk_at dksX7_loan_3 11 rfl rfl)
theorem dX7_loan_83 : decode cX7_loan 83 = .ok (.invokevirtual 182, 3) := dk_182 0 182 (dk_at dksX7_loan_3 12 rfl rfl)
theorem dX7_loan_86 : decode cX7_loan 86 = .ok (.ifCond .lt 47, 3) := dk_155 0 47 (dk_at dksX7_loan_3 15 rfl rfl)
theorem dX7_loan_89 : decode cX7_loan 89 = .ok (.aload_n 0, 1) := dk_42 (dk_at dksX7_loan_3 18 rfl rfl)
theorem dX7_loan_90 : decode cX7_loan 90 = .ok (.sipush 210, 3) := dk_17 0 210 (dk_at dksX7_loan_3 19 rfl rfl)
theorem dX7_loan_93 : decode cX7_loan 93 = .ok (.iload_n 1, 1) := dk_27 (dk_at dksX7_loan_3 22 rfl rfl)
theorem dX7_loan_94 : decode cX7_loan 94 = .ok (.invokevirtual 201, 3) := dk_182 0 201 (dk_at dksX7_loan_4 0 rfl rfl)
theorem dX7_loan_97 : decode cX7_loan 97 = .ok (.istore 7, 2) := dk_54 7 (dk_at dksX7_loan_4 3 rfl rfl)
theorem dX7_loan_99 : decode cX7_loan 99 = .ok (.iload 7, 2) := dk_21 7 (dk_at dksX7_loan_4 5 rfl rfl)
theorem dX7_loan_101 : decode cX7_loan 101 = .ok (.iload_n 3, 1) := dk_29 (dk_at dksX7_loan_4 7 rfl rfl)
theorem dX7_loan_102 : decode cX7_loan 102 = .ok (.if_icmp .ge 14, 3) := dk_162 0 14 (dk_at dksX7_loan_4 8 rfl rfl)
theorem dX7_loan_105 : decode cX7_loan 105 = .ok (.bipush 10, 2) := dk_16 10 (dk_at dksX7_loan_4 11 rfl rfl)
theorem dX7_loan_107 : decode cX7_loan 107 = .ok (.iload 5, 2) := dk_21 5 (dk_at dksX7_loan_4 13 rfl rfl)
theorem dX7_loan_109 : decode cX7_loan 109 = .ok (.imul, 1) := dk_104 (dk_at dksX7_loan_4 15 rfl rfl)
theorem dX7_loan_110 : decode cX7_loan 110 = .ok (.iload 6, 2) := dk_21 6 (dk_at dksX7_loan_4 16 rfl rfl)
theorem dX7_loan_112 : decode cX7_loan 112 = .ok (.iadd, 1) := dk_96 (dk_at dksX7_loan_4 18 rfl rfl)
theorem dX7_loan_113 : decode cX7_loan 113 = .ok (.goto 5, 3) := dk_167 0 5 (dk_at dksX7_loan_4 19 rfl rfl)
theorem dX7_loan_116 : decode cX7_loan 116 = .ok (.iload 4, 2) := dk_21 4 (dk_at dksX7_loan_4 22 rfl rfl)
theorem dX7_loan_118 : decode cX7_loan 118 = .ok (.istore 4, 2) := dk_54 4 (dk_at dksX7_loan_5 0 rfl rfl)
theorem dX7_loan_120 : decode cX7_loan 120 = .ok (.iload 7, 2) := dk_21 7 (dk_at dksX7_loan_5 2 rfl rfl)
theorem dX7_loan_122 : decode cX7_loan 122 = .ok (.iload_n 3, 1) := dk_29 (dk_at dksX7_loan_5 4 rfl rfl)
theorem dX7_loan_123 : decode cX7_loan 123 = .ok (.if_icmp .ge 8, 3) := dk_162 0 8 (dk_at dksX7_loan_5 5 rfl rfl)
theorem dX7_loan_126 : decode cX7_loan 126 = .ok (.iload 7, 2) := dk_21 7 (dk_at dksX7_loan_5 8 rfl rfl)
theorem dX7_loan_128 : decode cX7_loan 128 = .ok (.goto 4, 3) := dk_167 0 4 (dk_at dksX7_loan_5 10 rfl rfl)
theorem dX7_loan_131 : decode cX7_loan 131 = .ok (.iload_n 3, 1) := dk_29 (dk_at dksX7_loan_5 13 rfl rfl)
theorem dX7_loan_132 : decode cX7_loan 132 = .ok (.istore_n 3, 1) := dk_62 (dk_at dksX7_loan_5 14 rfl rfl)
theorem dX7_loan_133 : decode cX7_loan 133 = .ok (.iinc 6 1, 3) := dk_132 6 1 (dk_at dksX7_loan_5 15 rfl rfl)
theorem dX7_loan_136 : decode cX7_loan 136 = .ok (.goto (-86), 3) := dk_167 255 170 (dk_at dksX7_loan_5 18 rfl rfl)
theorem dX7_loan_139 : decode cX7_loan 139 = .ok (.iinc 5 1, 3) := dk_132 5 1 (dk_at dksX7_loan_5 21 rfl rfl)
theorem dX7_loan_142 : decode cX7_loan 142 = .ok (.goto (-104), 3) := dk_167 255 152 (dk_at dksX7_loan_6 0 rfl rfl)
theorem dX7_loan_145 : decode cX7_loan 145 = .ok (.iload 4, 2) := dk_21 4 (dk_at dksX7_loan_6 3 rfl rfl)
theorem dX7_loan_147 : decode cX7_loan 147 = .ok (.bipush (-4), 2) := dk_16 252 (dk_at dksX7_loan_6 5 rfl rfl)
theorem dX7_loan_149 : decode cX7_loan 149 = .ok (.if_icmp .eq 7, 3) := dk_159 0 7 (dk_at dksX7_loan_6 7 rfl rfl)
theorem dX7_loan_152 : decode cX7_loan 152 = .ok (.iload_n 2, 1) := dk_28 (dk_at dksX7_loan_6 10 rfl rfl)
theorem dX7_loan_153 : decode cX7_loan 153 = .ok (.ifCond .ne 8, 3) := dk_154 0 8 (dk_at dksX7_loan_6 11 rfl rfl)
theorem dX7_loan_156 : decode cX7_loan 156 = .ok (.iload 4, 2) := dk_21 4 (dk_at dksX7_loan_6 14 rfl rfl)
theorem dX7_loan_158 : decode cX7_loan 158 = .ok (.goto 4, 3) := dk_167 0 4 (dk_at dksX7_loan_6 16 rfl rfl)
theorem dX7_loan_161 : decode cX7_loan 161 = .ok (.iload_n 3, 1) := dk_29 (dk_at dksX7_loan_6 19 rfl rfl)
theorem dX7_loan_162 : decode cX7_loan 162 = .ok (.ireturn, 1) := dk_172 (dk_at dksX7_loan_6 20 rfl rfl)
abbrev cX7_swap : ByteArray := prog_11_method_49_code
def yX7_swap : MethodName := ⟨RX7, "swap", "(II)I"⟩
def dkwX7_swap_9 : List UInt8 := [132, 5, 1, 167, 255, 81, 21, 4, 16, 252, 159, 0, 7, 28, 154, 0, 8, 21, 4, 167, 0, 4, 29, 172]
abbrev dktX7_swap_9 : List UInt8 := dkwX7_swap_9 ++ []
def dkwX7_swap_8 : List UInt8 := [21, 4, 54, 4, 21, 7, 29, 162, 0, 8, 21, 7, 167, 0, 4, 29, 62, 132, 6, 1, 167, 255, 105]
abbrev dktX7_swap_8 : List UInt8 := dkwX7_swap_8 ++ dktX7_swap_9
def dkwX7_swap_7 : List UInt8 := [27, 182, 0, 201, 54, 7, 21, 7, 29, 162, 0, 14, 16, 10, 21, 5, 104, 21, 6, 96, 167, 0, 5]
abbrev dktX7_swap_7 : List UInt8 := dkwX7_swap_7 ++ dktX7_swap_8
def dkwX7_swap_6 : List UInt8 := [180, 0, 7, 17, 0, 240, 21, 6, 96, 42, 180, 0, 7, 16, 30, 21, 5, 96, 46, 79, 42, 17, 0, 210]
abbrev dktX7_swap_6 : List UInt8 := dkwX7_swap_6 ++ dktX7_swap_7
def dkwX7_swap_5 : List UInt8 := [42, 180, 0, 7, 17, 0, 230, 21, 6, 96, 42, 180, 0, 7, 16, 20, 21, 5, 96, 46, 79, 42]
abbrev dktX7_swap_5 : List UInt8 := dkwX7_swap_5 ++ dktX7_swap_6
def dkwX7_swap_4 : List UInt8 := [96, 46, 79, 42, 180, 0, 7, 17, 0, 240, 21, 5, 96, 42, 180, 0, 7, 16, 30, 21, 6, 96, 46, 79]
abbrev dktX7_swap_4 : List UInt8 := dkwX7_swap_4 ++ dktX7_swap_5
def dkwX7_swap_3 : List UInt8 := [17, 0, 210, 182, 0, 195, 42, 180, 0, 7, 17, 0, 230, 21, 5, 96, 42, 180, 0, 7, 16, 20, 21, 6]
abbrev dktX7_swap_3 : List UInt8 := dkwX7_swap_3 ++ dktX7_swap_4
def dkwX7_swap_2 : List UInt8 := [162, 0, 169, 21, 5, 4, 96, 54, 6, 21, 6, 42, 180, 0, 7, 16, 40, 46, 162, 0, 145, 42, 3]
abbrev dktX7_swap_2 : List UInt8 := dkwX7_swap_2 ++ dktX7_swap_3
def dkwX7_swap_1 : List UInt8 := [42, 3, 27, 182, 0, 201, 62, 16, 252, 54, 4, 3, 54, 5, 21, 5, 42, 180, 0, 7, 16, 40, 46]
abbrev dktX7_swap_1 : List UInt8 := dkwX7_swap_1 ++ dktX7_swap_2
def dkwX7_swap_0 : List UInt8 := [27, 133, 9, 20, 0, 199, 184, 0, 53, 153, 0, 13, 28, 133, 9, 10, 184, 0, 53, 154, 0, 5, 2, 172]
abbrev dktX7_swap_0 : List UInt8 := dkwX7_swap_0 ++ dktX7_swap_1
theorem dksX7_swap_0 : cX7_swap.data.toList.drop 0 = dktX7_swap_0 := by decide +kernel
theorem dksX7_swap_1 : cX7_swap.data.toList.drop 24 = dktX7_swap_1 := dk_seg dksX7_swap_0 24 rfl rfl
theorem dksX7_swap_2 : cX7_swap.data.toList.drop 47 = dktX7_swap_2 := dk_seg dksX7_swap_1 23 rfl rfl
theorem dksX7_swap_3 : cX7_swap.data.toList.drop 70 = dktX7_swap_3 := dk_seg dksX7_swap_2 23 rfl rfl
theorem dksX7_swap_4 : cX7_swap.data.toList.drop 94 = dktX7_swap_4 := dk_seg dksX7_swap_3 24 rfl rfl
theorem dksX7_swap_5 : cX7_swap.data.toList.drop 118 = dktX7_swap_5 := dk_seg dksX7_swap_4 24 rfl rfl
theorem dksX7_swap_6 : cX7_swap.data.toList.drop 140 = dktX7_swap_6 := dk_seg dksX7_swap_5 22 rfl rfl
theorem dksX7_swap_7 : cX7_swap.data.toList.drop 164 = dktX7_swap_7 := dk_seg dksX7_swap_6 24 rfl rfl
theorem dksX7_swap_8 : cX7_swap.data.toList.drop 187 = dktX7_swap_8 := dk_seg dksX7_swap_7 23 rfl rfl
theorem dksX7_swap_9 : cX7_swap.data.toList.drop 210 = dktX7_swap_9 := dk_seg dksX7_swap_8 23 rfl rfl
theorem dX7_swap_0 : decode cX7_swap 0 = .ok (.iload_n 1, 1) := dk_27 (dk_at dksX7_swap_0 0 rfl rfl)
theorem dX7_swap_1 : decode cX7_swap 1 = .ok (.i2l, 1) := dk_133 (dk_at dksX7_swap_0 1 rfl rfl)
theorem dX7_swap_2 : decode cX7_swap 2 = .ok (.lconst 0, 1) := dk_9 (dk_at dksX7_swap_0 2 rfl rfl)
theorem dX7_swap_3 : decode cX7_swap 3 = .ok (.ldc2_w 199, 3) := dk_20 0 199 (dk_at dksX7_swap_0 3 rfl rfl)
theorem dX7_swap_6 : decode cX7_swap 6 = .ok (.invokestatic 53, 3) := dk_184 0 53 (dk_at dksX7_swap_0 6 rfl rfl)
theorem dX7_swap_9 : decode cX7_swap 9 = .ok (.ifCond .eq 13, 3) := dk_153 0 13 (dk_at dksX7_swap_0 9 rfl rfl)
theorem dX7_swap_12 : decode cX7_swap 12 = .ok (.iload_n 2, 1) := dk_28 (dk_at dksX7_swap_0 12 rfl rfl)
theorem dX7_swap_13 : decode cX7_swap 13 = .ok (.i2l, 1) := dk_133 (dk_at dksX7_swap_0 13 rfl rfl)
theorem dX7_swap_14 : decode cX7_swap 14 = .ok (.lconst 0, 1) := dk_9 (dk_at dksX7_swap_0 14 rfl rfl)
theorem dX7_swap_15 : decode cX7_swap 15 = .ok (.lconst 1, 1) := dk_10 (dk_at dksX7_swap_0 15 rfl rfl)
theorem dX7_swap_16 : decode cX7_swap 16 = .ok (.invokestatic 53, 3) := dk_184 0 53 (dk_at dksX7_swap_0 16 rfl rfl)
theorem dX7_swap_19 : decode cX7_swap 19 = .ok (.ifCond .ne 5, 3) := dk_154 0 5 (dk_at dksX7_swap_0 19 rfl rfl)
theorem dX7_swap_22 : decode cX7_swap 22 = .ok (.iconst (-1), 1) := dk_2 (dk_at dksX7_swap_0 22 rfl rfl)
theorem dX7_swap_23 : decode cX7_swap 23 = .ok (.ireturn, 1) := dk_172 (dk_at dksX7_swap_0 23 rfl rfl)
theorem dX7_swap_24 : decode cX7_swap 24 = .ok (.aload_n 0, 1) := dk_42 (dk_at dksX7_swap_1 0 rfl rfl)
theorem dX7_swap_25 : decode cX7_swap 25 = .ok (.iconst 0, 1) := dk_3 (dk_at dksX7_swap_1 1 rfl rfl)
theorem dX7_swap_26 : decode cX7_swap 26 = .ok (.iload_n 1, 1) := dk_27 (dk_at dksX7_swap_1 2 rfl rfl)
theorem dX7_swap_27 : decode cX7_swap 27 = .ok (.invokevirtual 201, 3) := dk_182 0 201 (dk_at dksX7_swap_1 3 rfl rfl)
theorem dX7_swap_30 : decode cX7_swap 30 = .ok (.istore_n 3, 1) := dk_62 (dk_at dksX7_swap_1 6 rfl rfl)
theorem dX7_swap_31 : decode cX7_swap 31 = .ok (.bipush (-4), 2) := dk_16 252 (dk_at dksX7_swap_1 7 rfl rfl)
theorem dX7_swap_33 : decode cX7_swap 33 = .ok (.istore 4, 2) := dk_54 4 (dk_at dksX7_swap_1 9 rfl rfl)
theorem dX7_swap_35 : decode cX7_swap 35 = .ok (.iconst 0, 1) := dk_3 (dk_at dksX7_swap_1 11 rfl rfl)
theorem dX7_swap_36 : decode cX7_swap 36 = .ok (.istore 5, 2) := dk_54 5 (dk_at dksX7_swap_1 12 rfl rfl)
theorem dX7_swap_38 : decode cX7_swap 38 = .ok (.iload 5, 2) := dk_21 5 (dk_at dksX7_swap_1 14 rfl rfl)
theorem dX7_swap_40 : decode cX7_swap 40 = .ok (.aload_n 0, 1) := dk_42 (dk_at dksX7_swap_1 16 rfl rfl)
theorem dX7_swap_41 : decode cX7_swap 41 = .ok (.getfield 7, 3) := dk_180 0 7 (dk_at dksX7_swap_1 17 rfl rfl)
theorem dX7_swap_44 : decode cX7_swap 44 = .ok (.bipush 40, 2) := dk_16 40 (dk_at dksX7_swap_1 20 rfl rfl)
theorem dX7_swap_46 : decode cX7_swap 46 = .ok (.iaload, 1) := dk_46 (dk_at dksX7_swap_1 22 rfl rfl)
theorem dX7_swap_47 : decode cX7_swap 47 = .ok (.if_icmp .ge 169, 3) := dk_162 0 169 (dk_at dksX7_swap_2 0 rfl rfl)
theorem dX7_swap_50 : decode cX7_swap 50 = .ok (.iload 5, 2) := dk_21 5 (dk_at dksX7_swap_2 3 rfl rfl)
theorem dX7_swap_52 : decode cX7_swap 52 = .ok (.iconst 1, 1) := dk_4 (dk_at dksX7_swap_2 5 rfl rfl)
theorem dX7_swap_53 : decode cX7_swap 53 = .ok (.iadd, 1) := dk_96 (dk_at dksX7_swap_2 6 rfl rfl)
theorem dX7_swap_54 : decode cX7_swap 54 = .ok (.istore 6, 2) := dk_54 6 (dk_at dksX7_swap_2 7 rfl rfl)
theorem dX7_swap_56 : decode cX7_swap 56 = .ok (.iload 6, 2) := dk_21 6 (dk_at dksX7_swap_2 9 rfl rfl)
theorem dX7_swap_58 : decode cX7_swap 58 = .ok (.aload_n 0, 1) := dk_42 (dk_at dksX7_swap_2 11 rfl rfl)
theorem dX7_swap_59 : decode cX7_swap 59 = .ok (.getfield 7, 3) := dk_180 0 7 (dk_at dksX7_swap_2 12 rfl rfl)
theorem dX7_swap_62 : decode cX7_swap 62 = .ok (.bipush 40, 2) := dk_16 40 (dk_at dksX7_swap_2 15 rfl rfl)
theorem dX7_swap_64 : decode cX7_swap 64 = .ok (.iaload, 1) := dk_46 (dk_at dksX7_swap_2 17 rfl rfl)
theorem dX7_swap_65 : decode cX7_swap 65 = .ok (.if_icmp .ge 145, 3) := dk_162 0 145 (dk_at dksX7_swap_2 18 rfl rfl)
theorem dX7_swap_68 : decode cX7_swap 68 = .ok (.aload_n 0, 1) := dk_42 (dk_at dksX7_swap_2 21 rfl rfl)
theorem dX7_swap_69 : decode cX7_swap 69 = .ok (.iconst 0, 1) := dk_3 (dk_at dksX7_swap_2 22 rfl rfl)
theorem dX7_swap_70 : decode cX7_swap 70 = .ok (.sipush 210, 3) := dk_17 0 210 (dk_at dksX7_swap_3 0 rfl rfl)
theorem dX7_swap_73 : decode cX7_swap 73 = .ok (.invokevirtual 195, 3) := dk_182 0 195 (dk_at dksX7_swap_3 3 rfl rfl)
theorem dX7_swap_76 : decode cX7_swap 76 = .ok (.aload_n 0, 1) := dk_42 (dk_at dksX7_swap_3 6 rfl rfl)
theorem dX7_swap_77 : decode cX7_swap 77 = .ok (.getfield 7, 3) := dk_180 0 7 (dk_at dksX7_swap_3 7 rfl rfl)
theorem dX7_swap_80 : decode cX7_swap 80 = .ok (.sipush 230, 3) := dk_17 0 230 (dk_at dksX7_swap_3 10 rfl rfl)
theorem dX7_swap_83 : decode cX7_swap 83 = .ok (.iload 5, 2) := dk_21 5 (dk_at dksX7_swap_3 13 rfl rfl)
theorem dX7_swap_85 : decode cX7_swap 85 = .ok (.iadd, 1) := dk_96 (dk_at dksX7_swap_3 15 rfl rfl)
theorem dX7_swap_86 : decode cX7_swap 86 = .ok (.aload_n 0, 1) := dk_42 (dk_at dksX7_swap_3 16 rfl rfl)
theorem dX7_swap_87 : decode cX7_swap 87 = .ok (.getfield 7, 3) := dk_180 0 7 (dk_at dksX7_swap_3 17 rfl rfl)
theorem dX7_swap_90 : decode cX7_swap 90 = .ok (.bipush 20, 2) := dk_16 20 (dk_at dksX7_swap_3 20 rfl rfl)
theorem dX7_swap_92 : decode cX7_swap 92 = .ok (.iload 6, 2) := dk_21 6 (dk_at dksX7_swap_3 22 rfl rfl)
theorem dX7_swap_94 : decode cX7_swap 94 = .ok (.iadd, 1) := dk_96 (dk_at dksX7_swap_4 0 rfl rfl)
theorem dX7_swap_95 : decode cX7_swap 95 = .ok (.iaload, 1) := dk_46 (dk_at dksX7_swap_4 1 rfl rfl)
theorem dX7_swap_96 : decode cX7_swap 96 = .ok (.iastore, 1) := dk_79 (dk_at dksX7_swap_4 2 rfl rfl)
theorem dX7_swap_97 : decode cX7_swap 97 = .ok (.aload_n 0, 1) := dk_42 (dk_at dksX7_swap_4 3 rfl rfl)
theorem dX7_swap_98 : decode cX7_swap 98 = .ok (.getfield 7, 3) := dk_180 0 7 (dk_at dksX7_swap_4 4 rfl rfl)
theorem dX7_swap_101 : decode cX7_swap 101 = .ok (.sipush 240, 3) := dk_17 0 240 (dk_at dksX7_swap_4 7 rfl rfl)
theorem dX7_swap_104 : decode cX7_swap 104 = .ok (.iload 5, 2) := dk_21 5 (dk_at dksX7_swap_4 10 rfl rfl)
theorem dX7_swap_106 : decode cX7_swap 106 = .ok (.iadd, 1) := dk_96 (dk_at dksX7_swap_4 12 rfl rfl)
theorem dX7_swap_107 : decode cX7_swap 107 = .ok (.aload_n 0, 1) := dk_42 (dk_at dksX7_swap_4 13 rfl rfl)
theorem dX7_swap_108 : decode cX7_swap 108 = .ok (.getfield 7, 3) := dk_180 0 7 (dk_at dksX7_swap_4 14 rfl rfl)
theorem dX7_swap_111 : decode cX7_swap 111 = .ok (.bipush 30, 2) := dk_16 30 (dk_at dksX7_swap_4 17 rfl rfl)
theorem dX7_swap_113 : decode cX7_swap 113 = .ok (.iload 6, 2) := dk_21 6 (dk_at dksX7_swap_4 19 rfl rfl)
theorem dX7_swap_115 : decode cX7_swap 115 = .ok (.iadd, 1) := dk_96 (dk_at dksX7_swap_4 21 rfl rfl)
theorem dX7_swap_116 : decode cX7_swap 116 = .ok (.iaload, 1) := dk_46 (dk_at dksX7_swap_4 22 rfl rfl)
theorem dX7_swap_117 : decode cX7_swap 117 = .ok (.iastore, 1) := dk_79 (dk_at dksX7_swap_4 23 rfl rfl)
theorem dX7_swap_118 : decode cX7_swap 118 = .ok (.aload_n 0, 1) := dk_42 (dk_at dksX7_swap_5 0 rfl rfl)
theorem dX7_swap_119 : decode cX7_swap 119 = .ok (.getfield 7, 3) := dk_180 0 7 (dk_at dksX7_swap_5 1 rfl rfl)
theorem dX7_swap_122 : decode cX7_swap 122 = .ok (.sipush 230, 3) := dk_17 0 230 (dk_at dksX7_swap_5 4 rfl rfl)
theorem dX7_swap_125 : decode cX7_swap 125 = .ok (.iload 6, 2) := dk_21 6 (dk_at dksX7_swap_5 7 rfl rfl)
theorem dX7_swap_127 : decode cX7_swap 127 = .ok (.iadd, 1) := dk_96 (dk_at dksX7_swap_5 9 rfl rfl)
theorem dX7_swap_128 : decode cX7_swap 128 = .ok (.aload_n 0, 1) := dk_42 (dk_at dksX7_swap_5 10 rfl rfl)
theorem dX7_swap_129 : decode cX7_swap 129 = .ok (.getfield 7, 3) := dk_180 0 7 (dk_at dksX7_swap_5 11 rfl rfl)
theorem dX7_swap_132 : decode cX7_swap 132 = .ok (.bipush 20, 2) := dk_16 20 (dk_at dksX7_swap_5 14 rfl rfl)
theorem dX7_swap_134 : decode cX7_swap 134 = .ok (.iload 5, 2) := dk_21 5 (dk_at dksX7_swap_5 16 rfl rfl)
theorem dX7_swap_136 : decode cX7_swap 136 = .ok (.iadd, 1) := dk_96 (dk_at dksX7_swap_5 18 rfl rfl)
theorem dX7_swap_137 : decode cX7_swap 137 = .ok (.iaload, 1) := dk_46 (dk_at dksX7_swap_5 19 rfl rfl)
theorem dX7_swap_138 : decode cX7_swap 138 = .ok (.iastore, 1) := dk_79 (dk_at dksX7_swap_5 20 rfl rfl)
theorem dX7_swap_139 : decode cX7_swap 139 = .ok (.aload_n 0, 1) := dk_42 (dk_at dksX7_swap_5 21 rfl rfl)
theorem dX7_swap_140 : decode cX7_swap 140 = .ok (.getfield 7, 3) := dk_180 0 7 (dk_at dksX7_swap_6 0 rfl rfl)
theorem dX7_swap_143 : decode cX7_swap 143 = .ok (.sipush 240, 3) := dk_17 0 240 (dk_at dksX7_swap_6 3 rfl rfl)
theorem dX7_swap_146 : decode cX7_swap 146 = .ok (.iload 6, 2) := dk_21 6 (dk_at dksX7_swap_6 6 rfl rfl)
theorem dX7_swap_148 : decode cX7_swap 148 = .ok (.iadd, 1) := dk_96 (dk_at dksX7_swap_6 8 rfl rfl)
theorem dX7_swap_149 : decode cX7_swap 149 = .ok (.aload_n 0, 1) := dk_42 (dk_at dksX7_swap_6 9 rfl rfl)
theorem dX7_swap_150 : decode cX7_swap 150 = .ok (.getfield 7, 3) := dk_180 0 7 (dk_at dksX7_swap_6 10 rfl rfl)
theorem dX7_swap_153 : decode cX7_swap 153 = .ok (.bipush 30, 2) := dk_16 30 (dk_at dksX7_swap_6 13 rfl rfl)
theorem dX7_swap_155 : decode cX7_swap 155 = .ok (.iload 5, 2) := dk_21 5 (dk_at dksX7_swap_6 15 rfl rfl)
theorem dX7_swap_157 : decode cX7_swap 157 = .ok (.iadd, 1) := dk_96 (dk_at dksX7_swap_6 17 rfl rfl)
theorem dX7_swap_158 : decode cX7_swap 158 = .ok (.iaload, 1) := dk_46 (dk_at dksX7_swap_6 18 rfl rfl)
theorem dX7_swap_159 : decode cX7_swap 159 = .ok (.iastore, 1) := dk_79 (dk_at dksX7_swap_6 19 rfl rfl)
theorem dX7_swap_160 : decode cX7_swap 160 = .ok (.aload_n 0, 1) := dk_42 (dk_at dksX7_swap_6 20 rfl rfl)
theorem dX7_swap_161 : decode cX7_swap 161 = .ok (.sipush 210, 3) := dk_17 0 210 (dk_at dksX7_swap_6 21 rfl rfl)
theorem dX7_swap_164 : decode cX7_swap 164 = .ok (.iload_n 1, 1) := dk_27 (dk_at dksX7_swap_7 0 rfl rfl)
theorem dX7_swap_165 : decode cX7_swap 165 = .ok (.invokevirtual 201, 3) := dk_182 0 201 (dk_at dksX7_swap_7 1 rfl rfl)
theorem dX7_swap_168 : decode cX7_swap 168 = .ok (.istore 7, 2) := dk_54 7 (dk_at dksX7_swap_7 4 rfl rfl)
theorem dX7_swap_170 : decode cX7_swap 170 = .ok (.iload 7, 2) := dk_21 7 (dk_at dksX7_swap_7 6 rfl rfl)
theorem dX7_swap_172 : decode cX7_swap 172 = .ok (.iload_n 3, 1) := dk_29 (dk_at dksX7_swap_7 8 rfl rfl)
theorem dX7_swap_173 : decode cX7_swap 173 = .ok (.if_icmp .ge 14, 3) := dk_162 0 14 (dk_at dksX7_swap_7 9 rfl rfl)
theorem dX7_swap_176 : decode cX7_swap 176 = .ok (.bipush 10, 2) := dk_16 10 (dk_at dksX7_swap_7 12 rfl rfl)
theorem dX7_swap_178 : decode cX7_swap 178 = .ok (.iload 5, 2) := dk_21 5 (dk_at dksX7_swap_7 14 rfl rfl)
theorem dX7_swap_180 : decode cX7_swap 180 = .ok (.imul, 1) := dk_104 (dk_at dksX7_swap_7 16 rfl rfl)
theorem dX7_swap_181 : decode cX7_swap 181 = .ok (.iload 6, 2) := dk_21 6 (dk_at dksX7_swap_7 17 rfl rfl)
theorem dX7_swap_183 : decode cX7_swap 183 = .ok (.iadd, 1) := dk_96 (dk_at dksX7_swap_7 19 rfl rfl)
theorem dX7_swap_184 : decode cX7_swap 184 = .ok (.goto 5, 3) := dk_167 0 5 (dk_at dksX7_swap_7 20 rfl rfl)
theorem dX7_swap_187 : decode cX7_swap 187 = .ok (.iload 4, 2) := dk_21 4 (dk_at dksX7_swap_8 0 rfl rfl)
theorem dX7_swap_189 : decode cX7_swap 189 = .ok (.istore 4, 2) := dk_54 4 (dk_at dksX7_swap_8 2 rfl rfl)
theorem dX7_swap_191 : decode cX7_swap 191 = .ok (.iload 7, 2) := dk_21 7 (dk_at dksX7_swap_8 4 rfl rfl)
theorem dX7_swap_193 : decode cX7_swap 193 = .ok (.iload_n 3, 1) := dk_29 (dk_at dksX7_swap_8 6 rfl rfl)
theorem dX7_swap_194 : decode cX7_swap 194 = .ok (.if_icmp .ge 8, 3) := dk_162 0 8 (dk_at dksX7_swap_8 7 rfl rfl)
theorem dX7_swap_197 : decode cX7_swap 197 = .ok (.iload 7, 2) := dk_21 7 (dk_at dksX7_swap_8 10 rfl rfl)
theorem dX7_swap_199 : decode cX7_swap 199 = .ok (.goto 4, 3) := dk_167 0 4 (dk_at dksX7_swap_8 12 rfl rfl)
theorem dX7_swap_202 : decode cX7_swap 202 = .ok (.iload_n 3, 1) := dk_29 (dk_at dksX7_swap_8 15 rfl rfl)
theorem dX7_swap_203 : decode cX7_swap 203 = .ok (.istore_n 3, 1) := dk_62 (dk_at dksX7_swap_8 16 rfl rfl)
theorem dX7_swap_204 : decode cX7_swap 204 = .ok (.iinc 6 1, 3) := dk_132 6 1 (dk_at dksX7_swap_8 17 rfl rfl)
theorem dX7_swap_207 : decode cX7_swap 207 = .ok (.goto (-151), 3) := dk_167 255 105 (dk_at dksX7_swap_8 20 rfl rfl)
theorem dX7_swap_210 : decode cX7_swap 210 = .ok (.iinc 5 1, 3) := dk_132 5 1 (dk_at dksX7_swap_9 0 rfl rfl)
theorem dX7_swap_213 : decode cX7_swap 213 = .ok (.goto (-175), 3) := dk_167 255 81 (dk_at dksX7_swap_9 3 rfl rfl)
theorem dX7_swap_216 : decode cX7_swap 216 = .ok (.iload 4, 2) := dk_21 4 (dk_at dksX7_swap_9 6 rfl rfl)
theorem dX7_swap_218 : decode cX7_swap 218 = .ok (.bipush (-4), 2) := dk_16 252 (dk_at dksX7_swap_9 8 rfl rfl)
theorem dX7_swap_220 : decode cX7_swap 220 = .ok (.if_icmp .eq 7, 3) := dk_159 0 7 (dk_at dksX7_swap_9 10 rfl rfl)
theorem dX7_swap_223 : decode cX7_swap 223 = .ok (.iload_n 2, 1) := dk_28 (dk_at dksX7_swap_9 13 rfl rfl)
theorem dX7_swap_224 : decode cX7_swap 224 = .ok (.ifCond .ne 8, 3) := dk_154 0 8 (dk_at dksX7_swap_9 14 rfl rfl)
theorem dX7_swap_227 : decode cX7_swap 227 = .ok (.iload 4, 2) := dk_21 4 (dk_at dksX7_swap_9 17 rfl rfl)
theorem dX7_swap_229 : decode cX7_swap 229 = .ok (.goto 4, 3) := dk_167 0 4 (dk_at dksX7_swap_9 19 rfl rfl)
theorem dX7_swap_232 : decode cX7_swap 232 = .ok (.iload_n 3, 1) := dk_29 (dk_at dksX7_swap_9 22 rfl rfl)
theorem dX7_swap_233 : decode cX7_swap 233 = .ok (.ireturn, 1) := dk_172 (dk_at dksX7_swap_9 23 rfl rfl)
abbrev cX7_skip : ByteArray := prog_11_method_50_code
def yX7_skip : MethodName := ⟨RX7, "skip", "(II)I"⟩
def dkwX7_skip_5 : List UInt8 := [167, 0, 4, 29, 172]
abbrev dktX7_skip_5 : List UInt8 := dkwX7_skip_5 ++ []
def dkwX7_skip_4 : List UInt8 := [167, 0, 4, 29, 62, 132, 5, 1, 167, 255, 193, 21, 4, 16, 252, 159, 0, 7, 28, 154, 0, 8, 21, 4]
abbrev dktX7_skip_4 : List UInt8 := dkwX7_skip_4 ++ dktX7_skip_5
def dkwX7_skip_3 : List UInt8 := [21, 6, 29, 162, 0, 8, 21, 5, 167, 0, 5, 21, 4, 54, 4, 21, 6, 29, 162, 0, 8, 21, 6]
abbrev dktX7_skip_3 : List UInt8 := dkwX7_skip_3 ++ dktX7_skip_4
def dkwX7_skip_2 : List UInt8 := [162, 0, 57, 42, 21, 5, 181, 0, 25, 42, 3, 27, 182, 0, 201, 54, 6, 42, 16, 252, 181, 0, 25]
abbrev dktX7_skip_2 : List UInt8 := dkwX7_skip_2 ++ dktX7_skip_3
def dkwX7_skip_1 : List UInt8 := [42, 3, 27, 182, 0, 201, 62, 16, 252, 54, 4, 3, 54, 5, 21, 5, 42, 180, 0, 7, 16, 40, 46]
abbrev dktX7_skip_1 : List UInt8 := dkwX7_skip_1 ++ dktX7_skip_2
def dkwX7_skip_0 : List UInt8 := [27, 133, 9, 20, 0, 199, 184, 0, 53, 153, 0, 13, 28, 133, 9, 10, 184, 0, 53, 154, 0, 5, 2, 172]
abbrev dktX7_skip_0 : List UInt8 := dkwX7_skip_0 ++ dktX7_skip_1
theorem dksX7_skip_0 : cX7_skip.data.toList.drop 0 = dktX7_skip_0 := by decide +kernel
theorem dksX7_skip_1 : cX7_skip.data.toList.drop 24 = dktX7_skip_1 := dk_seg dksX7_skip_0 24 rfl rfl
theorem dksX7_skip_2 : cX7_skip.data.toList.drop 47 = dktX7_skip_2 := dk_seg dksX7_skip_1 23 rfl rfl
theorem dksX7_skip_3 : cX7_skip.data.toList.drop 70 = dktX7_skip_3 := dk_seg dksX7_skip_2 23 rfl rfl
theorem dksX7_skip_4 : cX7_skip.data.toList.drop 93 = dktX7_skip_4 := dk_seg dksX7_skip_3 23 rfl rfl
theorem dksX7_skip_5 : cX7_skip.data.toList.drop 117 = dktX7_skip_5 := dk_seg dksX7_skip_4 24 rfl rfl
theorem dX7_skip_0 : decode cX7_skip 0 = .ok (.iload_n 1, 1) := dk_27 (dk_at dksX7_skip_0 0 rfl rfl)
theorem dX7_skip_1 : decode cX7_skip 1 = .ok (.i2l, 1) := dk_133 (dk_at dksX7_skip_0 1 rfl rfl)
theorem dX7_skip_2 : decode cX7_skip 2 = .ok (.lconst 0, 1) := dk_9 (dk_at dksX7_skip_0 2 rfl rfl)
theorem dX7_skip_3 : decode cX7_skip 3 = .ok (.ldc2_w 199, 3) := dk_20 0 199 (dk_at dksX7_skip_0 3 rfl rfl)
theorem dX7_skip_6 : decode cX7_skip 6 = .ok (.invokestatic 53, 3) := dk_184 0 53 (dk_at dksX7_skip_0 6 rfl rfl)
theorem dX7_skip_9 : decode cX7_skip 9 = .ok (.ifCond .eq 13, 3) := dk_153 0 13 (dk_at dksX7_skip_0 9 rfl rfl)
theorem dX7_skip_12 : decode cX7_skip 12 = .ok (.iload_n 2, 1) := dk_28 (dk_at dksX7_skip_0 12 rfl rfl)
theorem dX7_skip_13 : decode cX7_skip 13 = .ok (.i2l, 1) := dk_133 (dk_at dksX7_skip_0 13 rfl rfl)
theorem dX7_skip_14 : decode cX7_skip 14 = .ok (.lconst 0, 1) := dk_9 (dk_at dksX7_skip_0 14 rfl rfl)
theorem dX7_skip_15 : decode cX7_skip 15 = .ok (.lconst 1, 1) := dk_10 (dk_at dksX7_skip_0 15 rfl rfl)
theorem dX7_skip_16 : decode cX7_skip 16 = .ok (.invokestatic 53, 3) := dk_184 0 53 (dk_at dksX7_skip_0 16 rfl rfl)
theorem dX7_skip_19 : decode cX7_skip 19 = .ok (.ifCond .ne 5, 3) := dk_154 0 5 (dk_at dksX7_skip_0 19 rfl rfl)
theorem dX7_skip_22 : decode cX7_skip 22 = .ok (.iconst (-1), 1) := dk_2 (dk_at dksX7_skip_0 22 rfl rfl)
theorem dX7_skip_23 : decode cX7_skip 23 = .ok (.ireturn, 1) := dk_172 (dk_at dksX7_skip_0 23 rfl rfl)
theorem dX7_skip_24 : decode cX7_skip 24 = .ok (.aload_n 0, 1) := dk_42 (dk_at dksX7_skip_1 0 rfl rfl)
theorem dX7_skip_25 : decode cX7_skip 25 = .ok (.iconst 0, 1) := dk_3 (dk_at dksX7_skip_1 1 rfl rfl)
theorem dX7_skip_26 : decode cX7_skip 26 = .ok (.iload_n 1, 1) := dk_27 (dk_at dksX7_skip_1 2 rfl rfl)
theorem dX7_skip_27 : decode cX7_skip 27 = .ok (.invokevirtual 201, 3) := dk_182 0 201 (dk_at dksX7_skip_1 3 rfl rfl)
theorem dX7_skip_30 : decode cX7_skip 30 = .ok (.istore_n 3, 1) := dk_62 (dk_at dksX7_skip_1 6 rfl rfl)
theorem dX7_skip_31 : decode cX7_skip 31 = .ok (.bipush (-4), 2) := dk_16 252 (dk_at dksX7_skip_1 7 rfl rfl)
theorem dX7_skip_33 : decode cX7_skip 33 = .ok (.istore 4, 2) := dk_54 4 (dk_at dksX7_skip_1 9 rfl rfl)
theorem dX7_skip_35 : decode cX7_skip 35 = .ok (.iconst 0, 1) := dk_3 (dk_at dksX7_skip_1 11 rfl rfl)
theorem dX7_skip_36 : decode cX7_skip 36 = .ok (.istore 5, 2) := dk_54 5 (dk_at dksX7_skip_1 12 rfl rfl)
theorem dX7_skip_38 : decode cX7_skip 38 = .ok (.iload 5, 2) := dk_21 5 (dk_at dksX7_skip_1 14 rfl rfl)
theorem dX7_skip_40 : decode cX7_skip 40 = .ok (.aload_n 0, 1) := dk_42 (dk_at dksX7_skip_1 16 rfl rfl)
theorem dX7_skip_41 : decode cX7_skip 41 = .ok (.getfield 7, 3) := dk_180 0 7 (dk_at dksX7_skip_1 17 rfl rfl)
theorem dX7_skip_44 : decode cX7_skip 44 = .ok (.bipush 40, 2) := dk_16 40 (dk_at dksX7_skip_1 20 rfl rfl)
theorem dX7_skip_46 : decode cX7_skip 46 = .ok (.iaload, 1) := dk_46 (dk_at dksX7_skip_1 22 rfl rfl)
theorem dX7_skip_47 : decode cX7_skip 47 = .ok (.if_icmp .ge 57, 3) := dk_162 0 57 (dk_at dksX7_skip_2 0 rfl rfl)
theorem dX7_skip_50 : decode cX7_skip 50 = .ok (.aload_n 0, 1) := dk_42 (dk_at dksX7_skip_2 3 rfl rfl)
theorem dX7_skip_51 : decode cX7_skip 51 = .ok (.iload 5, 2) := dk_21 5 (dk_at dksX7_skip_2 4 rfl rfl)
theorem dX7_skip_53 : decode cX7_skip 53 = .ok (.putfield 25, 3) := dk_181 0 25 (dk_at dksX7_skip_2 6 rfl rfl)
theorem dX7_skip_56 : decode cX7_skip 56 = .ok (.aload_n 0, 1) := dk_42 (dk_at dksX7_skip_2 9 rfl rfl)
theorem dX7_skip_57 : decode cX7_skip 57 = .ok (.iconst 0, 1) := dk_3 (dk_at dksX7_skip_2 10 rfl rfl)
theorem dX7_skip_58 : decode cX7_skip 58 = .ok (.iload_n 1, 1) := dk_27 (dk_at dksX7_skip_2 11 rfl rfl)
theorem dX7_skip_59 : decode cX7_skip 59 = .ok (.invokevirtual 201, 3) := dk_182 0 201 (dk_at dksX7_skip_2 12 rfl rfl)
theorem dX7_skip_62 : decode cX7_skip 62 = .ok (.istore 6, 2) := dk_54 6 (dk_at dksX7_skip_2 15 rfl rfl)
theorem dX7_skip_64 : decode cX7_skip 64 = .ok (.aload_n 0, 1) := dk_42 (dk_at dksX7_skip_2 17 rfl rfl)
theorem dX7_skip_65 : decode cX7_skip 65 = .ok (.bipush (-4), 2) := dk_16 252 (dk_at dksX7_skip_2 18 rfl rfl)
theorem dX7_skip_67 : decode cX7_skip 67 = .ok (.putfield 25, 3) := dk_181 0 25 (dk_at dksX7_skip_2 20 rfl rfl)
theorem dX7_skip_70 : decode cX7_skip 70 = .ok (.iload 6, 2) := dk_21 6 (dk_at dksX7_skip_3 0 rfl rfl)
theorem dX7_skip_72 : decode cX7_skip 72 = .ok (.iload_n 3, 1) := dk_29 (dk_at dksX7_skip_3 2 rfl rfl)
theorem dX7_skip_73 : decode cX7_skip 73 = .ok (.if_icmp .ge 8, 3) := dk_162 0 8 (dk_at dksX7_skip_3 3 rfl rfl)
theorem dX7_skip_76 : decode cX7_skip 76 = .ok (.iload 5, 2) := dk_21 5 (dk_at dksX7_skip_3 6 rfl rfl)
theorem dX7_skip_78 : decode cX7_skip 78 = .ok (.goto 5, 3) := dk_167 0 5 (dk_at dksX7_skip_3 8 rfl rfl)
theorem dX7_skip_81 : decode cX7_skip 81 = .ok (.iload 4, 2) := dk_21 4 (dk_at dksX7_skip_3 11 rfl rfl)
theorem dX7_skip_83 : decode cX7_skip 83 = .ok (.istore 4, 2) := dk_54 4 (dk_at dksX7_skip_3 13 rfl rfl)
theorem dX7_skip_85 : decode cX7_skip 85 = .ok (.iload 6, 2) := dk_21 6 (dk_at dksX7_skip_3 15 rfl rfl)
theorem dX7_skip_87 : decode cX7_skip 87 = .ok (.iload_n 3, 1) := dk_29 (dk_at dksX7_skip_3 17 rfl rfl)
theorem dX7_skip_88 : decode cX7_skip 88 = .ok (.if_icmp .ge 8, 3) := dk_162 0 8 (dk_at dksX7_skip_3 18 rfl rfl)
theorem dX7_skip_91 : decode cX7_skip 91 = .ok (.iload 6, 2) := dk_21 6 (dk_at dksX7_skip_3 21 rfl rfl)
theorem dX7_skip_93 : decode cX7_skip 93 = .ok (.goto 4, 3) := dk_167 0 4 (dk_at dksX7_skip_4 0 rfl rfl)
theorem dX7_skip_96 : decode cX7_skip 96 = .ok (.iload_n 3, 1) := dk_29 (dk_at dksX7_skip_4 3 rfl rfl)
theorem dX7_skip_97 : decode cX7_skip 97 = .ok (.istore_n 3, 1) := dk_62 (dk_at dksX7_skip_4 4 rfl rfl)
theorem dX7_skip_98 : decode cX7_skip 98 = .ok (.iinc 5 1, 3) := dk_132 5 1 (dk_at dksX7_skip_4 5 rfl rfl)
theorem dX7_skip_101 : decode cX7_skip 101 = .ok (.goto (-63), 3) := dk_167 255 193 (dk_at dksX7_skip_4 8 rfl rfl)
theorem dX7_skip_104 : decode cX7_skip 104 = .ok (.iload 4, 2) := dk_21 4 (dk_at dksX7_skip_4 11 rfl rfl)
theorem dX7_skip_106 : decode cX7_skip 106 = .ok (.bipush (-4), 2) := dk_16 252 (dk_at dksX7_skip_4 13 rfl rfl)
theorem dX7_skip_108 : decode cX7_skip 108 = .ok (.if_icmp .eq 7, 3) := dk_159 0 7 (dk_at dksX7_skip_4 15 rfl rfl)
theorem dX7_skip_111 : decode cX7_skip 111 = .ok (.iload_n 2, 1) := dk_28 (dk_at dksX7_skip_4 18 rfl rfl)
theorem dX7_skip_112 : decode cX7_skip 112 = .ok (.ifCond .ne 8, 3) := dk_154 0 8 (dk_at dksX7_skip_4 19 rfl rfl)
theorem dX7_skip_115 : decode cX7_skip 115 = .ok (.iload 4, 2) := dk_21 4 (dk_at dksX7_skip_4 22 rfl rfl)
theorem dX7_skip_117 : decode cX7_skip 117 = .ok (.goto 4, 3) := dk_167 0 4 (dk_at dksX7_skip_5 0 rfl rfl)
theorem dX7_skip_120 : decode cX7_skip 120 = .ok (.iload_n 3, 1) := dk_29 (dk_at dksX7_skip_5 3 rfl rfl)
theorem dX7_skip_121 : decode cX7_skip 121 = .ok (.ireturn, 1) := dk_172 (dk_at dksX7_skip_5 4 rfl rfl)
abbrev cX7_most : ByteArray := prog_11_method_51_code
def yX7_most : MethodName := ⟨RX7, "most", "(II)I"⟩
def dkwX7_most_3 : List UInt8 := [172]
abbrev dktX7_most_3 : List UInt8 := dkwX7_most_3 ++ []
def dkwX7_most_2 : List UInt8 := [42, 17, 0, 210, 27, 28, 182, 0, 206, 16, 252, 159, 0, 5, 29, 172, 132, 3, 255, 167, 255, 222, 16, 252]
abbrev dktX7_most_2 : List UInt8 := dkwX7_most_2 ++ dktX7_most_3
def dkwX7_most_1 : List UInt8 := [17, 0, 210, 182, 0, 195, 16, 20, 62, 29, 155, 0, 36, 42, 180, 0, 7, 17, 0, 215, 27, 96, 29, 79]
abbrev dktX7_most_1 : List UInt8 := dkwX7_most_1 ++ dktX7_most_2
def dkwX7_most_0 : List UInt8 := [42, 27, 182, 0, 131, 153, 0, 15, 28, 133, 9, 20, 0, 199, 184, 0, 53, 154, 0, 5, 2, 172, 42, 3]
abbrev dktX7_most_0 : List UInt8 := dkwX7_most_0 ++ dktX7_most_1
theorem dksX7_most_0 : cX7_most.data.toList.drop 0 = dktX7_most_0 := by decide +kernel
theorem dksX7_most_1 : cX7_most.data.toList.drop 24 = dktX7_most_1 := dk_seg dksX7_most_0 24 rfl rfl
theorem dksX7_most_2 : cX7_most.data.toList.drop 48 = dktX7_most_2 := dk_seg dksX7_most_1 24 rfl rfl
theorem dksX7_most_3 : cX7_most.data.toList.drop 72 = dktX7_most_3 := dk_seg dksX7_most_2 24 rfl rfl
theorem dX7_most_0 : decode cX7_most 0 = .ok (.aload_n 0, 1) := dk_42 (dk_at dksX7_most_0 0 rfl rfl)
theorem dX7_most_1 : decode cX7_most 1 = .ok (.iload_n 1, 1) := dk_27 (dk_at dksX7_most_0 1 rfl rfl)
theorem dX7_most_2 : decode cX7_most 2 = .ok (.invokevirtual 131, 3) := dk_182 0 131 (dk_at dksX7_most_0 2 rfl rfl)
theorem dX7_most_5 : decode cX7_most 5 = .ok (.ifCond .eq 15, 3) := dk_153 0 15 (dk_at dksX7_most_0 5 rfl rfl)
theorem dX7_most_8 : decode cX7_most 8 = .ok (.iload_n 2, 1) := dk_28 (dk_at dksX7_most_0 8 rfl rfl)
theorem dX7_most_9 : decode cX7_most 9 = .ok (.i2l, 1) := dk_133 (dk_at dksX7_most_0 9 rfl rfl)
theorem dX7_most_10 : decode cX7_most 10 = .ok (.lconst 0, 1) := dk_9 (dk_at dksX7_most_0 10 rfl rfl)
theorem dX7_most_11 : decode cX7_most 11 = .ok (.ldc2_w 199, 3) := dk_20 0 199 (dk_at dksX7_most_0 11 rfl rfl)
theorem dX7_most_14 : decode cX7_most 14 = .ok (.invokestatic 53, 3) := dk_184 0 53 (dk_at dksX7_most_0 14 rfl rfl)
theorem dX7_most_17 : decode cX7_most 17 = .ok (.ifCond .ne 5, 3) := dk_154 0 5 (dk_at dksX7_most_0 17 rfl rfl)
theorem dX7_most_20 : decode cX7_most 20 = .ok (.iconst (-1), 1) := dk_2 (dk_at dksX7_most_0 20 rfl rfl)
theorem dX7_most_21 : decode cX7_most 21 = .ok (.ireturn, 1) := dk_172 (dk_at dksX7_most_0 21 rfl rfl)
theorem dX7_most_22 : decode cX7_most 22 = .ok (.aload_n 0, 1) := dk_42 (dk_at dksX7_most_0 22 rfl rfl)
theorem dX7_most_23 : decode cX7_most 23 = .ok (.iconst 0, 1) := dk_3 (dk_at dksX7_most_0 23 rfl rfl)
theorem dX7_most_24 : decode cX7_most 24 = .ok (.sipush 210, 3) := dk_17 0 210 (dk_at dksX7_most_1 0 rfl rfl)
theorem dX7_most_27 : decode cX7_most 27 = .ok (.invokevirtual 195, 3) := dk_182 0 195 (dk_at dksX7_most_1 3 rfl rfl)
theorem dX7_most_30 : decode cX7_most 30 = .ok (.bipush 20, 2) := dk_16 20 (dk_at dksX7_most_1 6 rfl rfl)
theorem dX7_most_32 : decode cX7_most 32 = .ok (.istore_n 3, 1) := dk_62 (dk_at dksX7_most_1 8 rfl rfl)
theorem dX7_most_33 : decode cX7_most 33 = .ok (.iload_n 3, 1) := dk_29 (dk_at dksX7_most_1 9 rfl rfl)
theorem dX7_most_34 : decode cX7_most 34 = .ok (.ifCond .lt 36, 3) := dk_155 0 36 (dk_at dksX7_most_1 10 rfl rfl)
theorem dX7_most_37 : decode cX7_most 37 = .ok (.aload_n 0, 1) := dk_42 (dk_at dksX7_most_1 13 rfl rfl)
theorem dX7_most_38 : decode cX7_most 38 = .ok (.getfield 7, 3) := dk_180 0 7 (dk_at dksX7_most_1 14 rfl rfl)
theorem dX7_most_41 : decode cX7_most 41 = .ok (.sipush 215, 3) := dk_17 0 215 (dk_at dksX7_most_1 17 rfl rfl)
theorem dX7_most_44 : decode cX7_most 44 = .ok (.iload_n 1, 1) := dk_27 (dk_at dksX7_most_1 20 rfl rfl)
theorem dX7_most_45 : decode cX7_most 45 = .ok (.iadd, 1) := dk_96 (dk_at dksX7_most_1 21 rfl rfl)
theorem dX7_most_46 : decode cX7_most 46 = .ok (.iload_n 3, 1) := dk_29 (dk_at dksX7_most_1 22 rfl rfl)
theorem dX7_most_47 : decode cX7_most 47 = .ok (.iastore, 1) := dk_79 (dk_at dksX7_most_1 23 rfl rfl)
theorem dX7_most_48 : decode cX7_most 48 = .ok (.aload_n 0, 1) := dk_42 (dk_at dksX7_most_2 0 rfl rfl)
theorem dX7_most_49 : decode cX7_most 49 = .ok (.sipush 210, 3) := dk_17 0 210 (dk_at dksX7_most_2 1 rfl rfl)
theorem dX7_most_52 : decode cX7_most 52 = .ok (.iload_n 1, 1) := dk_27 (dk_at dksX7_most_2 4 rfl rfl)
theorem dX7_most_53 : decode cX7_most 53 = .ok (.iload_n 2, 1) := dk_28 (dk_at dksX7_most_2 5 rfl rfl)
theorem dX7_most_54 : decode cX7_most 54 = .ok (.invokevirtual 206, 3) := dk_182 0 206 (dk_at dksX7_most_2 6 rfl rfl)
theorem dX7_most_57 : decode cX7_most 57 = .ok (.bipush (-4), 2) := dk_16 252 (dk_at dksX7_most_2 9 rfl rfl)
theorem dX7_most_59 : decode cX7_most 59 = .ok (.if_icmp .eq 5, 3) := dk_159 0 5 (dk_at dksX7_most_2 11 rfl rfl)
theorem dX7_most_62 : decode cX7_most 62 = .ok (.iload_n 3, 1) := dk_29 (dk_at dksX7_most_2 14 rfl rfl)
theorem dX7_most_63 : decode cX7_most 63 = .ok (.ireturn, 1) := dk_172 (dk_at dksX7_most_2 15 rfl rfl)
theorem dX7_most_64 : decode cX7_most 64 = .ok (.iinc 3 (-1), 3) := dk_132 3 255 (dk_at dksX7_most_2 16 rfl rfl)
theorem dX7_most_67 : decode cX7_most 67 = .ok (.goto (-34), 3) := dk_167 255 222 (dk_at dksX7_most_2 19 rfl rfl)
theorem dX7_most_70 : decode cX7_most 70 = .ok (.bipush (-4), 2) := dk_16 252 (dk_at dksX7_most_2 22 rfl rfl)
theorem dX7_most_72 : decode cX7_most 72 = .ok (.ireturn, 1) := dk_172 (dk_at dksX7_most_3 0 rfl rfl)
abbrev cX7_kind : ByteArray := prog_11_method_52_code
def yX7_kind : MethodName := ⟨RX7, "kind", "(III)I"⟩
def dkwX7_kind_5 : List UInt8 := [21, 5, 167, 0, 5, 21, 4, 172]
abbrev dktX7_kind_5 : List UInt8 := dkwX7_kind_5 ++ []
def dkwX7_kind_4 : List UInt8 := [21, 4, 162, 0, 8, 21, 7, 167, 0, 5, 21, 4, 54, 4, 132, 6, 1, 167, 255, 193, 29, 154, 0, 8]
abbrev dktX7_kind_4 : List UInt8 := dkwX7_kind_4 ++ dktX7_kind_5
def dkwX7_kind_3 : List UInt8 := [28, 182, 0, 201, 54, 7, 21, 7, 21, 4, 162, 0, 8, 21, 6, 167, 0, 5, 21, 5, 54, 5, 21, 7]
abbrev dktX7_kind_3 : List UInt8 := dkwX7_kind_3 ++ dktX7_kind_4
def dkwX7_kind_2 : List UInt8 := [54, 6, 21, 6, 7, 162, 0, 63, 42, 180, 0, 7, 17, 0, 210, 27, 96, 21, 6, 79, 42, 17, 0, 210]
abbrev dktX7_kind_2 : List UInt8 := dkwX7_kind_2 ++ dktX7_kind_3
def dkwX7_kind_1 : List UInt8 := [184, 0, 53, 154, 0, 5, 2, 172, 18, 213, 54, 4, 3, 54, 5, 42, 3, 17, 0, 210, 182, 0, 195, 3]
abbrev dktX7_kind_1 : List UInt8 := dkwX7_kind_1 ++ dktX7_kind_2
def dkwX7_kind_0 : List UInt8 := [42, 27, 182, 0, 131, 153, 0, 25, 28, 133, 9, 20, 0, 199, 184, 0, 53, 153, 0, 13, 29, 133, 9, 10]
abbrev dktX7_kind_0 : List UInt8 := dkwX7_kind_0 ++ dktX7_kind_1
theorem dksX7_kind_0 : cX7_kind.data.toList.drop 0 = dktX7_kind_0 := by decide +kernel
theorem dksX7_kind_1 : cX7_kind.data.toList.drop 24 = dktX7_kind_1 := dk_seg dksX7_kind_0 24 rfl rfl
theorem dksX7_kind_2 : cX7_kind.data.toList.drop 48 = dktX7_kind_2 := dk_seg dksX7_kind_1 24 rfl rfl
theorem dksX7_kind_3 : cX7_kind.data.toList.drop 72 = dktX7_kind_3 := dk_seg dksX7_kind_2 24 rfl rfl
theorem dksX7_kind_4 : cX7_kind.data.toList.drop 96 = dktX7_kind_4 := dk_seg dksX7_kind_3 24 rfl rfl
theorem dksX7_kind_5 : cX7_kind.data.toList.drop 120 = dktX7_kind_5 := dk_seg dksX7_kind_4 24 rfl rfl
theorem dX7_kind_0 : decode cX7_kind 0 = .ok (.aload_n 0, 1) := dk_42 (dk_at dksX7_kind_0 0 rfl rfl)
theorem dX7_kind_1 : decode cX7_kind 1 = .ok (.iload_n 1, 1) := dk_27 (dk_at dksX7_kind_0 1 rfl rfl)
theorem dX7_kind_2 : decode cX7_kind 2 = .ok (.invokevirtual 131, 3) := dk_182 0 131 (dk_at dksX7_kind_0 2 rfl rfl)
theorem dX7_kind_5 : decode cX7_kind 5 = .ok (.ifCond .eq 25, 3) := dk_153 0 25 (dk_at dksX7_kind_0 5 rfl rfl)
theorem dX7_kind_8 : decode cX7_kind 8 = .ok (.iload_n 2, 1) := dk_28 (dk_at dksX7_kind_0 8 rfl rfl)
theorem dX7_kind_9 : decode cX7_kind 9 = .ok (.i2l, 1) := dk_133 (dk_at dksX7_kind_0 9 rfl rfl)
theorem dX7_kind_10 : decode cX7_kind 10 = .ok (.lconst 0, 1) := dk_9 (dk_at dksX7_kind_0 10 rfl rfl)
theorem dX7_kind_11 : decode cX7_kind 11 = .ok (.ldc2_w 199, 3) := dk_20 0 199 (dk_at dksX7_kind_0 11 rfl rfl)
theorem dX7_kind_14 : decode cX7_kind 14 = .ok (.invokestatic 53, 3) := dk_184 0 53 (dk_at dksX7_kind_0 14 rfl rfl)
theorem dX7_kind_17 : decode cX7_kind 17 = .ok (.ifCond .eq 13, 3) := dk_153 0 13 (dk_at dksX7_kind_0 17 rfl rfl)
theorem dX7_kind_20 : decode cX7_kind 20 = .ok (.iload_n 3, 1) := dk_29 (dk_at dksX7_kind_0 20 rfl rfl)
theorem dX7_kind_21 : decode cX7_kind 21 = .ok (.i2l, 1) := dk_133 (dk_at dksX7_kind_0 21 rfl rfl)
theorem dX7_kind_22 : decode cX7_kind 22 = .ok (.lconst 0, 1) := dk_9 (dk_at dksX7_kind_0 22 rfl rfl)
theorem dX7_kind_23 : decode cX7_kind 23 = .ok (.lconst 1, 1) := dk_10 (dk_at dksX7_kind_0 23 rfl rfl)
theorem dX7_kind_24 : decode cX7_kind 24 = .ok (.invokestatic 53, 3) := dk_184 0 53 (dk_at dksX7_kind_1 0 rfl rfl)
theorem dX7_kind_27 : decode cX7_kind 27 = .ok (.ifCond .ne 5, 3) := dk_154 0 5 (dk_at dksX7_kind_1 3 rfl rfl)
theorem dX7_kind_30 : decode cX7_kind 30 = .ok (.iconst (-1), 1) := dk_2 (dk_at dksX7_kind_1 6 rfl rfl)
theorem dX7_kind_31 : decode cX7_kind 31 = .ok (.ireturn, 1) := dk_172 (dk_at dksX7_kind_1 7 rfl rfl)
theorem dX7_kind_32 : decode cX7_kind 32 = .ok (.ldc 213, 2) := dk_18 213 (dk_at dksX7_kind_1 8 rfl rfl)
theorem dX7_kind_34 : decode cX7_kind 34 = .ok (.istore 4, 2) := dk_54 4 (dk_at dksX7_kind_1 10 rfl rfl)
theorem dX7_kind_36 : decode cX7_kind 36 = .ok (.iconst 0, 1) := dk_3 (dk_at dksX7_kind_1 12 rfl rfl)
theorem dX7_kind_37 : decode cX7_kind 37 = .ok (.istore 5, 2) := dk_54 5 (dk_at dksX7_kind_1 13 rfl rfl)
theorem dX7_kind_39 : decode cX7_kind 39 = .ok (.aload_n 0, 1) := dk_42 (dk_at dksX7_kind_1 15 rfl rfl)
theorem dX7_kind_40 : decode cX7_kind 40 = .ok (.iconst 0, 1) := dk_3 (dk_at dksX7_kind_1 16 rfl rfl)
theorem dX7_kind_41 : decode cX7_kind 41 = .ok (.sipush 210, 3) := dk_17 0 210 (dk_at dksX7_kind_1 17 rfl rfl)
theorem dX7_kind_44 : decode cX7_kind 44 = .ok (.invokevirtual 195, 3) := dk_182 0 195 (dk_at dksX7_kind_1 20 rfl rfl)
theorem dX7_kind_47 : decode cX7_kind 47 = .ok (.iconst 0, 1) := dk_3 (dk_at dksX7_kind_1 23 rfl rfl)
theorem dX7_kind_48 : decode cX7_kind 48 = .ok (.istore 6, 2) := dk_54 6 (dk_at dksX7_kind_2 0 rfl rfl)
theorem dX7_kind_50 : decode cX7_kind 50 = .ok (.iload 6, 2) := dk_21 6 (dk_at dksX7_kind_2 2 rfl rfl)
theorem dX7_kind_52 : decode cX7_kind 52 = .ok (.iconst 4, 1) := dk_7 (dk_at dksX7_kind_2 4 rfl rfl)
theorem dX7_kind_53 : decode cX7_kind 53 = .ok (.if_icmp .ge 63, 3) := dk_162 0 63 (dk_at dksX7_kind_2 5 rfl rfl)
theorem dX7_kind_56 : decode cX7_kind 56 = .ok (.aload_n 0, 1) := dk_42 (dk_at dksX7_kind_2 8 rfl rfl)
theorem dX7_kind_57 : decode cX7_kind 57 = .ok (.getfield 7, 3) := dk_180 0 7 (dk_at dksX7_kind_2 9 rfl rfl)
theorem dX7_kind_60 : decode cX7_kind 60 = .ok (.sipush 210, 3) := dk_17 0 210 (dk_at dksX7_kind_2 12 rfl rfl)
theorem dX7_kind_63 : decode cX7_kind 63 = .ok (.iload_n 1, 1) := dk_27 (dk_at dksX7_kind_2 15 rfl rfl)
theorem dX7_kind_64 : decode cX7_kind 64 = .ok (.iadd, 1) := dk_96 (dk_at dksX7_kind_2 16 rfl rfl)
theorem dX7_kind_65 : decode cX7_kind 65 = .ok (.iload 6, 2) := dk_21 6 (dk_at dksX7_kind_2 17 rfl rfl)
theorem dX7_kind_67 : decode cX7_kind 67 = .ok (.iastore, 1) := dk_79 (dk_at dksX7_kind_2 19 rfl rfl)
theorem dX7_kind_68 : decode cX7_kind 68 = .ok (.aload_n 0, 1) := dk_42 (dk_at dksX7_kind_2 20 rfl rfl)
theorem dX7_kind_69 : decode cX7_kind 69 = .ok (.sipush 210, 3) := dk_17 0 210 (dk_at dksX7_kind_2 21 rfl rfl)
theorem dX7_kind_72 : decode cX7_kind 72 = .ok (.iload_n 2, 1) := dk_28 (dk_at dksX7_kind_3 0 rfl rfl)
theorem dX7_kind_73 : decode cX7_kind 73 = .ok (.invokevirtual 201, 3) := dk_182 0 201 (dk_at dksX7_kind_3 1 rfl rfl)
theorem dX7_kind_76 : decode cX7_kind 76 = .ok (.istore 7, 2) := dk_54 7 (dk_at dksX7_kind_3 4 rfl rfl)
theorem dX7_kind_78 : decode cX7_kind 78 = .ok (.iload 7, 2) := dk_21 7 (dk_at dksX7_kind_3 6 rfl rfl)
theorem dX7_kind_80 : decode cX7_kind 80 = .ok (.iload 4, 2) := dk_21 4 (dk_at dksX7_kind_3 8 rfl rfl)
theorem dX7_kind_82 : decode cX7_kind 82 = .ok (.if_icmp .ge 8, 3) := dk_162 0 8 (dk_at dksX7_kind_3 10 rfl rfl)
theorem dX7_kind_85 : decode cX7_kind 85 = .ok (.iload 6, 2) := dk_21 6 (dk_at dksX7_kind_3 13 rfl rfl)
theorem dX7_kind_87 : decode cX7_kind 87 = .ok (.goto 5, 3) := dk_167 0 5 (dk_at dksX7_kind_3 15 rfl rfl)
theorem dX7_kind_90 : decode cX7_kind 90 = .ok (.iload 5, 2) := dk_21 5 (dk_at dksX7_kind_3 18 rfl rfl)
theorem dX7_kind_92 : decode cX7_kind 92 = .ok (.istore 5, 2) := dk_54 5 (dk_at dksX7_kind_3 20 rfl rfl)
theorem dX7_kind_94 : decode cX7_kind 94 = .ok (.iload 7, 2) := dk_21 7 (dk_at dksX7_kind_3 22 rfl rfl)
theorem dX7_kind_96 : decode cX7_kind 96 = .ok (.iload 4, 2) := dk_21 4 (dk_at dksX7_kind_4 0 rfl rfl)
theorem dX7_kind_98 : decode cX7_kind 98 = .ok (.if_icmp .ge 8, 3) := dk_162 0 8 (dk_at dksX7_kind_4 2 rfl rfl)
theorem dX7_kind_101 : decode cX7_kind 101 = .ok (.iload 7, 2) := dk_21 7 (dk_at dksX7_kind_4 5 rfl rfl)
theorem dX7_kind_103 : decode cX7_kind 103 = .ok (.goto 5, 3) := dk_167 0 5 (dk_at dksX7_kind_4 7 rfl rfl)
theorem dX7_kind_106 : decode cX7_kind 106 = .ok (.iload 4, 2) := dk_21 4 (dk_at dksX7_kind_4 10 rfl rfl)
theorem dX7_kind_108 : decode cX7_kind 108 = .ok (.istore 4, 2) := dk_54 4 (dk_at dksX7_kind_4 12 rfl rfl)
theorem dX7_kind_110 : decode cX7_kind 110 = .ok (.iinc 6 1, 3) := dk_132 6 1 (dk_at dksX7_kind_4 14 rfl rfl)
theorem dX7_kind_113 : decode cX7_kind 113 = .ok (.goto (-63), 3) := dk_167 255 193 (dk_at dksX7_kind_4 17 rfl rfl)
theorem dX7_kind_116 : decode cX7_kind 116 = .ok (.iload_n 3, 1) := dk_29 (dk_at dksX7_kind_4 20 rfl rfl)
theorem dX7_kind_117 : decode cX7_kind 117 = .ok (.ifCond .ne 8, 3) := dk_154 0 8 (dk_at dksX7_kind_4 21 rfl rfl)
theorem dX7_kind_120 : decode cX7_kind 120 = .ok (.iload 5, 2) := dk_21 5 (dk_at dksX7_kind_5 0 rfl rfl)
theorem dX7_kind_122 : decode cX7_kind 122 = .ok (.goto 5, 3) := dk_167 0 5 (dk_at dksX7_kind_5 2 rfl rfl)
theorem dX7_kind_125 : decode cX7_kind 125 = .ok (.iload 4, 2) := dk_21 4 (dk_at dksX7_kind_5 5 rfl rfl)
theorem dX7_kind_127 : decode cX7_kind 127 = .ok (.ireturn, 1) := dk_172 (dk_at dksX7_kind_5 7 rfl rfl)
abbrev cX7_luck : ByteArray := prog_11_method_55_code
def yX7_luck : MethodName := ⟨RX7, "luck", "(IIII)J"⟩
def dkwX7_luck_2 : List UInt8 := [21, 4, 182, 0, 223, 167, 0, 6, 20, 0, 227, 173]
abbrev dktX7_luck_2 : List UInt8 := dkwX7_luck_2 ++ []
def dkwX7_luck_1 : List UInt8 := [20, 0, 221, 184, 0, 53, 153, 0, 26, 21, 4, 133, 9, 10, 184, 0, 53, 153, 0, 15, 42, 27, 28, 29]
abbrev dktX7_luck_1 : List UInt8 := dkwX7_luck_1 ++ dktX7_luck_2
def dkwX7_luck_0 : List UInt8 := [27, 133, 9, 20, 0, 209, 184, 0, 53, 153, 0, 46, 42, 28, 182, 0, 131, 153, 0, 38, 29, 133, 9]
abbrev dktX7_luck_0 : List UInt8 := dkwX7_luck_0 ++ dktX7_luck_1
theorem dksX7_luck_0 : cX7_luck.data.toList.drop 0 = dktX7_luck_0 := by decide +kernel
theorem dksX7_luck_1 : cX7_luck.data.toList.drop 23 = dktX7_luck_1 := dk_seg dksX7_luck_0 23 rfl rfl
theorem dksX7_luck_2 : cX7_luck.data.toList.drop 47 = dktX7_luck_2 := dk_seg dksX7_luck_1 24 rfl rfl
theorem dX7_luck_0 : decode cX7_luck 0 = .ok (.iload_n 1, 1) := dk_27 (dk_at dksX7_luck_0 0 rfl rfl)
theorem dX7_luck_1 : decode cX7_luck 1 = .ok (.i2l, 1) := dk_133 (dk_at dksX7_luck_0 1 rfl rfl)
theorem dX7_luck_2 : decode cX7_luck 2 = .ok (.lconst 0, 1) := dk_9 (dk_at dksX7_luck_0 2 rfl rfl)
theorem dX7_luck_3 : decode cX7_luck 3 = .ok (.ldc2_w 209, 3) := dk_20 0 209 (dk_at dksX7_luck_0 3 rfl rfl)
theorem dX7_luck_6 : decode cX7_luck 6 = .ok (.invokestatic 53, 3) := dk_184 0 53 (dk_at dksX7_luck_0 6 rfl rfl)
theorem dX7_luck_9 : decode cX7_luck 9 = .ok (.ifCond .eq 46, 3) := dk_153 0 46 (dk_at dksX7_luck_0 9 rfl rfl)
theorem dX7_luck_12 : decode cX7_luck 12 = .ok (.aload_n 0, 1) := dk_42 (dk_at dksX7_luck_0 12 rfl rfl)
theorem dX7_luck_13 : decode cX7_luck 13 = .ok (.iload_n 2, 1) := dk_28 (dk_at dksX7_luck_0 13 rfl rfl)
theorem dX7_luck_14 : decode cX7_luck 14 = .ok (.invokevirtual 131, 3) := dk_182 0 131 (dk_at dksX7_luck_0 14 rfl rfl)
theorem dX7_luck_17 : decode cX7_luck 17 = .ok (.ifCond .eq 38, 3) := dk_153 0 38 (dk_at dksX7_luck_0 17 rfl rfl)
theorem dX7_luck_20 : decode cX7_luck 20 = .ok (.iload_n 3, 1) := dk_29 (dk_at dksX7_luck_0 20 rfl rfl)
theorem dX7_luck_21 : decode cX7_luck 21 = .ok (.i2l, 1) := dk_133 (dk_at dksX7_luck_0 21 rfl rfl)
theorem dX7_luck_22 : decode cX7_luck 22 = .ok (.lconst 0, 1) := dk_9 (dk_at dksX7_luck_0 22 rfl rfl)
theorem dX7_luck_23 : decode cX7_luck 23 = .ok (.ldc2_w 221, 3) := dk_20 0 221 (dk_at dksX7_luck_1 0 rfl rfl)
theorem dX7_luck_26 : decode cX7_luck 26 = .ok (.invokestatic 53, 3) := dk_184 0 53 (dk_at dksX7_luck_1 3 rfl rfl)
theorem dX7_luck_29 : decode cX7_luck 29 = .ok (.ifCond .eq 26, 3) := dk_153 0 26 (dk_at dksX7_luck_1 6 rfl rfl)
theorem dX7_luck_32 : decode cX7_luck 32 = .ok (.iload 4, 2) := dk_21 4 (dk_at dksX7_luck_1 9 rfl rfl)
theorem dX7_luck_34 : decode cX7_luck 34 = .ok (.i2l, 1) := dk_133 (dk_at dksX7_luck_1 11 rfl rfl)
theorem dX7_luck_35 : decode cX7_luck 35 = .ok (.lconst 0, 1) := dk_9 (dk_at dksX7_luck_1 12 rfl rfl)
theorem dX7_luck_36 : decode cX7_luck 36 = .ok (.lconst 1, 1) := dk_10 (dk_at dksX7_luck_1 13 rfl rfl)
theorem dX7_luck_37 : decode cX7_luck 37 = .ok (.invokestatic 53, 3) := dk_184 0 53 (dk_at dksX7_luck_1 14 rfl rfl)
theorem dX7_luck_40 : decode cX7_luck 40 = .ok (.ifCond .eq 15, 3) := dk_153 0 15 (dk_at dksX7_luck_1 17 rfl rfl)
theorem dX7_luck_43 : decode cX7_luck 43 = .ok (.aload_n 0, 1) := dk_42 (dk_at dksX7_luck_1 20 rfl rfl)
theorem dX7_luck_44 : decode cX7_luck 44 = .ok (.iload_n 1, 1) := dk_27 (dk_at dksX7_luck_1 21 rfl rfl)
theorem dX7_luck_45 : decode cX7_luck 45 = .ok (.iload_n 2, 1) := dk_28 (dk_at dksX7_luck_1 22 rfl rfl)
theorem dX7_luck_46 : decode cX7_luck 46 = .ok (.iload_n 3, 1) := dk_29 (dk_at dksX7_luck_1 23 rfl rfl)
theorem dX7_luck_47 : decode cX7_luck 47 = .ok (.iload 4, 2) := dk_21 4 (dk_at dksX7_luck_2 0 rfl rfl)
theorem dX7_luck_49 : decode cX7_luck 49 = .ok (.invokevirtual 223, 3) := dk_182 0 223 (dk_at dksX7_luck_2 2 rfl rfl)
theorem dX7_luck_52 : decode cX7_luck 52 = .ok (.goto 6, 3) := dk_167 0 6 (dk_at dksX7_luck_2 5 rfl rfl)
theorem dX7_luck_55 : decode cX7_luck 55 = .ok (.ldc2_w 227, 3) := dk_20 0 227 (dk_at dksX7_luck_2 8 rfl rfl)
theorem dX7_luck_58 : decode cX7_luck 58 = .ok (.lreturn, 1) := dk_173 (dk_at dksX7_luck_2 11 rfl rfl)
abbrev cX7_byRain : ByteArray := prog_11_method_54_code
def yX7_byRain : MethodName := ⟨RX7, "byRain", "(IIII)J"⟩
def dkwX7_byRain_7 : List UInt8 := [133, 105, 97, 55, 5, 132, 9, 1, 167, 255, 114, 22, 5, 22, 7, 21, 4, 184, 0, 217, 173]
abbrev dktX7_byRain_7 : List UInt8 := dkwX7_byRain_7 ++ []
def dkwX7_byRain_6 : List UInt8 := [22, 10, 28, 16, 252, 160, 0, 13, 42, 17, 0, 168, 182, 0, 164, 167, 0, 9, 21, 12, 28, 122, 4, 126]
abbrev dktX7_byRain_6 : List UInt8 := dkwX7_byRain_6 ++ dktX7_byRain_7
def dkwX7_byRain_5 : List UInt8 := [160, 0, 7, 3, 167, 0, 9, 4, 42, 180, 0, 142, 120, 128, 54, 12, 132, 13, 1, 167, 255, 176, 22, 5]
abbrev dktX7_byRain_5 : List UInt8 := dkwX7_byRain_5 ++ dktX7_byRain_6
def dkwX7_byRain_4 : List UInt8 := [27, 100, 133, 105, 55, 10, 42, 17, 0, 168, 21, 14, 182, 0, 191, 21, 12, 42, 180, 0, 142, 16, 252]
abbrev dktX7_byRain_4 : List UInt8 := dkwX7_byRain_4 ++ dktX7_byRain_5
def dkwX7_byRain_3 : List UInt8 := [160, 0, 7, 4, 167, 0, 4, 3, 54, 14, 22, 10, 21, 14, 153, 0, 8, 27, 133, 167, 0, 8, 16, 10]
abbrev dktX7_byRain_3 : List UInt8 := dkwX7_byRain_3 ++ dktX7_byRain_4
def dkwX7_byRain_2 : List UInt8 := [3, 17, 0, 168, 182, 0, 195, 3, 54, 13, 21, 13, 29, 162, 0, 80, 21, 9, 21, 13, 122, 4, 126, 4]
abbrev dktX7_byRain_2 : List UInt8 := dkwX7_byRain_2 ++ dktX7_byRain_3
def dkwX7_byRain_1 : List UInt8 := [132, 9, 1, 167, 255, 239, 3, 54, 9, 21, 9, 4, 29, 120, 162, 0, 140, 10, 55, 10, 3, 54, 12, 42]
abbrev dktX7_byRain_1 : List UInt8 := dkwX7_byRain_1 ++ dktX7_byRain_2
def dkwX7_byRain_0 : List UInt8 := [9, 55, 5, 10, 55, 7, 3, 54, 9, 21, 9, 29, 162, 0, 17, 22, 7, 20, 0, 209, 105, 55, 7]
abbrev dktX7_byRain_0 : List UInt8 := dkwX7_byRain_0 ++ dktX7_byRain_1
theorem dksX7_byRain_0 : cX7_byRain.data.toList.drop 0 = dktX7_byRain_0 := by decide +kernel
theorem dksX7_byRain_1 : cX7_byRain.data.toList.drop 23 = dktX7_byRain_1 := dk_seg dksX7_byRain_0 23 rfl rfl
theorem dksX7_byRain_2 : cX7_byRain.data.toList.drop 47 = dktX7_byRain_2 := dk_seg dksX7_byRain_1 24 rfl rfl
theorem dksX7_byRain_3 : cX7_byRain.data.toList.drop 71 = dktX7_byRain_3 := dk_seg dksX7_byRain_2 24 rfl rfl
theorem dksX7_byRain_4 : cX7_byRain.data.toList.drop 95 = dktX7_byRain_4 := dk_seg dksX7_byRain_3 24 rfl rfl
theorem dksX7_byRain_5 : cX7_byRain.data.toList.drop 118 = dktX7_byRain_5 := dk_seg dksX7_byRain_4 23 rfl rfl
theorem dksX7_byRain_6 : cX7_byRain.data.toList.drop 142 = dktX7_byRain_6 := dk_seg dksX7_byRain_5 24 rfl rfl
theorem dksX7_byRain_7 : cX7_byRain.data.toList.drop 166 = dktX7_byRain_7 := dk_seg dksX7_byRain_6 24 rfl rfl
theorem dX7_byRain_0 : decode cX7_byRain 0 = .ok (.lconst 0, 1) := dk_9 (dk_at dksX7_byRain_0 0 rfl rfl)
theorem dX7_byRain_1 : decode cX7_byRain 1 = .ok (.lstore 5, 2) := dk_55 5 (dk_at dksX7_byRain_0 1 rfl rfl)
theorem dX7_byRain_3 : decode cX7_byRain 3 = .ok (.lconst 1, 1) := dk_10 (dk_at dksX7_byRain_0 3 rfl rfl)
theorem dX7_byRain_4 : decode cX7_byRain 4 = .ok (.lstore 7, 2) := dk_55 7 (dk_at dksX7_byRain_0 4 rfl rfl)
theorem dX7_byRain_6 : decode cX7_byRain 6 = .ok (.iconst 0, 1) := dk_3 (dk_at dksX7_byRain_0 6 rfl rfl)
theorem dX7_byRain_7 : decode cX7_byRain 7 = .ok (.istore 9, 2) := dk_54 9 (dk_at dksX7_byRain_0 7 rfl rfl)
theorem dX7_byRain_9 : decode cX7_byRain 9 = .ok (.iload 9, 2) := dk_21 9 (dk_at dksX7_byRain_0 9 rfl rfl)
theorem dX7_byRain_11 : decode cX7_byRain 11 = .ok (.iload_n 3, 1) := dk_29 (dk_at dksX7_byRain_0 11 rfl rfl)
theorem dX7_byRain_12 : decode cX7_byRain 12 = .ok (.if_icmp .ge 17, 3) := dk_162 0 17 (dk_at dksX7_byRain_0 12 rfl rfl)
theorem dX7_byRain_15 : decode cX7_byRain 15 = .ok (.lload 7, 2) := dk_22 7 (dk_at dksX7_byRain_0 15 rfl rfl)
theorem dX7_byRain_17 : decode cX7_byRain 17 = .ok (.ldc2_w 209, 3) := dk_20 0 209 (dk_at dksX7_byRain_0 17 rfl rfl)
theorem dX7_byRain_20 : decode cX7_byRain 20 = .ok (.lmul, 1) := dk_105 (dk_at dksX7_byRain_0 20 rfl rfl)
theorem dX7_byRain_21 : decode cX7_byRain 21 = .ok (.lstore 7, 2) := dk_55 7 (dk_at dksX7_byRain_0 21 rfl rfl)
theorem dX7_byRain_23 : decode cX7_byRain 23 = .ok (.iinc 9 1, 3) := dk_132 9 1 (dk_at dksX7_byRain_1 0 rfl rfl)
theorem dX7_byRain_26 : decode cX7_byRain 26 = .ok (.goto (-17), 3) := dk_167 255 239 (dk_at dksX7_byRain_1 3 rfl rfl)
theorem dX7_byRain_29 : decode cX7_byRain 29 = .ok (.iconst 0, 1) := dk_3 (dk_at dksX7_byRain_1 6 rfl rfl)
theorem dX7_byRain_30 : decode cX7_byRain 30 = .ok (.istore 9, 2) := dk_54 9 (dk_at dksX7_byRain_1 7 rfl rfl)
theorem dX7_byRain_32 : decode cX7_byRain 32 = .ok (.iload 9, 2) := dk_21 9 (dk_at dksX7_byRain_1 9 rfl rfl)
theorem dX7_byRain_34 : decode cX7_byRain 34 = .ok (.iconst 1, 1) := dk_4 (dk_at dksX7_byRain_1 11 rfl rfl)
theorem dX7_byRain_35 : decode cX7_byRain 35 = .ok (.iload_n 3, 1) := dk_29 (dk_at dksX7_byRain_1 12 rfl rfl)
theorem dX7_byRain_36 : decode cX7_byRain 36 = .ok (.ishl, 1) := dk_120 (dk_at dksX7_byRain_1 13 rfl rfl)
theorem dX7_byRain_37 : decode cX7_byRain 37 = .ok (.if_icmp .ge 140, 3) := dk_162 0 140 (dk_at dksX7_byRain_1 14 rfl rfl)
theorem dX7_byRain_40 : decode cX7_byRain 40 = .ok (.lconst 1, 1) := dk_10 (dk_at dksX7_byRain_1 17 rfl rfl)
theorem dX7_byRain_41 : decode cX7_byRain 41 = .ok (.lstore 10, 2) := dk_55 10 (dk_at dksX7_byRain_1 18 rfl rfl)
theorem dX7_byRain_43 : decode cX7_byRain 43 = .ok (.iconst 0, 1) := dk_3 (dk_at dksX7_byRain_1 20 rfl rfl)
theorem dX7_byRain_44 : decode cX7_byRain 44 = .ok (.istore 12, 2) := dk_54 12 (dk_at dksX7_byRain_1 21 rfl rfl)
theorem dX7_byRain_46 : decode cX7_byRain 46 = .ok (.aload_n 0, 1) := dk_42 (dk_at dksX7_byRain_1 23 rfl rfl)
theorem dX7_byRain_47 : decode cX7_byRain 47 = .ok (.iconst 0, 1) := dk_3 (dk_at dksX7_byRain_2 0 rfl rfl)
theorem dX7_byRain_48 : decode cX7_byRain 48 = .ok (.sipush 168, 3) := dk_17 0 168 (dk_at dksX7_byRain_2 1 rfl rfl)
theorem dX7_byRain_51 : decode cX7_byRain 51 = .ok (.invokevirtual 195, 3) := dk_182 0 195 (dk_at dksX7_byRain_2 4 rfl rfl)
theorem dX7_byRain_54 : decode cX7_byRain 54 = .ok (.iconst 0, 1) := dk_3 (dk_at dksX7_byRain_2 7 rfl rfl)
theorem dX7_byRain_55 : decode cX7_byRain 55 = .ok (.istore 13, 2) := dk_54 13 (dk_at dksX7_byRain_2 8 rfl rfl)
theorem dX7_byRain_57 : decode cX7_byRain 57 = .ok (.iload 13, 2) := dk_21 13 (dk_at dksX7_byRain_2 10 rfl rfl)
theorem dX7_byRain_59 : decode cX7_byRain 59 = .ok (.iload_n 3, 1) := dk_29 (dk_at dksX7_byRain_2 12 rfl rfl)
theorem dX7_byRain_60 : decode cX7_byRain 60 = .ok (.if_icmp .ge 80, 3) := dk_162 0 80 (dk_at dksX7_byRain_2 13 rfl rfl)
theorem dX7_byRain_63 : decode cX7_byRain 63 = .ok (.iload 9, 2) := dk_21 9 (dk_at dksX7_byRain_2 16 rfl rfl)
theorem dX7_byRain_65 : decode cX7_byRain 65 = .ok (.iload 13, 2) := dk_21 13 (dk_at dksX7_byRain_2 18 rfl rfl)
theorem dX7_byRain_67 : decode cX7_byRain 67 = .ok (.ishr, 1) := dk_122 (dk_at dksX7_byRain_2 20 rfl rfl)
theorem dX7_byRain_68 : decode cX7_byRain 68 = .ok (.iconst 1, 1) := dk_4 (dk_at dksX7_byRain_2 21 rfl rfl)
theorem dX7_byRain_69 : decode cX7_byRain 69 = .ok (.iand, 1) := dk_126 (dk_at dksX7_byRain_2 22 rfl rfl)
theorem dX7_byRain_70 : decode cX7_byRain 70 = .ok (.iconst 1, 1) := dk_4 (dk_at dksX7_byRain_2 23 rfl rfl)
theorem dX7_byRain_71 : decode cX7_byRain 71 = .ok (.if_icmp .ne 7, 3) := dk_160 0 7 (dk_at dksX7_byRain_3 0 rfl rfl)
theorem dX7_byRain_74 : decode cX7_byRain 74 = .ok (.iconst 1, 1) := dk_4 (dk_at dksX7_byRain_3 3 rfl rfl)
theorem dX7_byRain_75 : decode cX7_byRain 75 = .ok (.goto 4, 3) := dk_167 0 4 (dk_at dksX7_byRain_3 4 rfl rfl)
theorem dX7_byRain_78 : decode cX7_byRain 78 = .ok (.iconst 0, 1) := dk_3 (dk_at dksX7_byRain_3 7 rfl rfl)
theorem dX7_byRain_79 : decode cX7_byRain 79 = .ok (.istore 14, 2) := dk_54 14 (dk_at dksX7_byRain_3 8 rfl rfl)
theorem dX7_byRain_81 : decode cX7_byRain 81 = .ok (.lload 10, 2) := dk_22 10 (dk_at dksX7_byRain_3 10 rfl rfl)
theorem dX7_byRain_83 : decode cX7_byRain 83 = .ok (.iload 14, 2) := dk_21 14 (dk_at dksX7_byRain_3 12 rfl rfl)
theorem dX7_byRain_85 : decode cX7_byRain 85 = .ok (.ifCond .eq 8, 3) := dk_153 0 8 (dk_at dksX7_byRain_3 14 rfl rfl)
theorem dX7_byRain_88 : decode cX7_byRain 88 = .ok (.iload_n 1, 1) := dk_27 (dk_at dksX7_byRain_3 17 rfl rfl)
theorem dX7_byRain_89 : decode cX7_byRain 89 = .ok (.i2l, 1) := dk_133 (dk_at dksX7_byRain_3 18 rfl rfl)
theorem dX7_byRain_90 : decode cX7_byRain 90 = .ok (.goto 8, 3) := dk_167 0 8 (dk_at dksX7_byRain_3 19 rfl rfl)
theorem dX7_byRain_93 : decode cX7_byRain 93 = .ok (.bipush 10, 2) := dk_16 10 (dk_at dksX7_byRain_3 22 rfl rfl)
theorem dX7_byRain_95 : decode cX7_byRain 95 = .ok (.iload_n 1, 1) := dk_27 (dk_at dksX7_byRain_4 0 rfl rfl)
theorem dX7_byRain_96 : decode cX7_byRain 96 = .ok (.isub, 1) := dk_100 (dk_at dksX7_byRain_4 1 rfl rfl)
theorem dX7_byRain_97 : decode cX7_byRain 97 = .ok (.i2l, 1) := dk_133 (dk_at dksX7_byRain_4 2 rfl rfl)
theorem dX7_byRain_98 : decode cX7_byRain 98 = .ok (.lmul, 1) := dk_105 (dk_at dksX7_byRain_4 3 rfl rfl)
theorem dX7_byRain_99 : decode cX7_byRain 99 = .ok (.lstore 10, 2) := dk_55 10 (dk_at dksX7_byRain_4 4 rfl rfl)
theorem dX7_byRain_101 : decode cX7_byRain 101 = .ok (.aload_n 0, 1) := dk_42 (dk_at dksX7_byRain_4 6 rfl rfl)
theorem dX7_byRain_102 : decode cX7_byRain 102 = .ok (.sipush 168, 3) := dk_17 0 168 (dk_at dksX7_byRain_4 7 rfl rfl)
theorem dX7_byRain_105 : decode cX7_byRain 105 = .ok (.iload 14, 2) := dk_21 14 (dk_at dksX7_byRain_4 10 rfl rfl)
theorem dX7_byRain_107 : decode cX7_byRain 107 = .ok (.invokevirtual 191, 3) := dk_182 0 191 (dk_at dksX7_byRain_4 12 rfl rfl)
theorem dX7_byRain_110 : decode cX7_byRain 110 = .ok (.iload 12, 2) := dk_21 12 (dk_at dksX7_byRain_4 15 rfl rfl)
theorem dX7_byRain_112 : decode cX7_byRain 112 = .ok (.aload_n 0, 1) := dk_42 (dk_at dksX7_byRain_4 17 rfl rfl)
theorem dX7_byRain_113 : decode cX7_byRain 113 = .ok (.getfield 142, 3) := dk_180 0 142 (dk_at dksX7_byRain_4 18 rfl rfl)
theorem dX7_byRain_116 : decode cX7_byRain 116 = .ok (.bipush (-4), 2) := dk_16 252 (dk_at dksX7_byRain_4 21 rfl rfl)
theorem dX7_byRain_118 : decode cX7_byRain 118 = .ok (.if_icmp .ne 7, 3) := dk_160 0 7 (dk_at dksX7_byRain_5 0 rfl rfl)
theorem dX7_byRain_121 : decode cX7_byRain 121 = .ok (.iconst 0, 1) := dk_3 (dk_at dksX7_byRain_5 3 rfl rfl)
theorem dX7_byRain_122 : decode cX7_byRain 122 = .ok (.goto 9, 3) := dk_167 0 9 (dk_at dksX7_byRain_5 4 rfl rfl)
theorem dX7_byRain_125 : decode cX7_byRain 125 = .ok (.iconst 1, 1) := dk_4 (dk_at dksX7_byRain_5 7 rfl rfl)
theorem dX7_byRain_126 : decode cX7_byRain 126 = .ok (.aload_n 0, 1) := dk_42 (dk_at dksX7_byRain_5 8 rfl rfl)
theorem dX7_byRain_127 : decode cX7_byRain 127 = .ok (.getfield 142, 3) := dk_180 0 142 (dk_at dksX7_byRain_5 9 rfl rfl)
theorem dX7_byRain_130 : decode cX7_byRain 130 = .ok (.ishl, 1) := dk_120 (dk_at dksX7_byRain_5 12 rfl rfl)
theorem dX7_byRain_131 : decode cX7_byRain 131 = .ok (.ior, 1) := dk_128 (dk_at dksX7_byRain_5 13 rfl rfl)
theorem dX7_byRain_132 : decode cX7_byRain 132 = .ok (.istore 12, 2) := dk_54 12 (dk_at dksX7_byRain_5 14 rfl rfl)
theorem dX7_byRain_134 : decode cX7_byRain 134 = .ok (.iinc 13 1, 3) := dk_132 13 1 (dk_at dksX7_byRain_5 16 rfl rfl)
theorem dX7_byRain_137 : decode cX7_byRain 137 = .ok (.goto (-80), 3) := dk_167 255 176 (dk_at dksX7_byRain_5 19 rfl rfl)
theorem dX7_byRain_140 : decode cX7_byRain 140 = .ok (.lload 5, 2) := dk_22 5 (dk_at dksX7_byRain_5 22 rfl rfl)
theorem dX7_byRain_142 : decode cX7_byRain 142 = .ok (.lload 10, 2) := dk_22 10 (dk_at dksX7_byRain_6 0 rfl rfl)
theorem dX7_byRain_144 : decode cX7_byRain 144 = .ok (.iload_n 2, 1) := dk_28 (dk_at dksX7_byRain_6 2 rfl rfl)
theorem dX7_byRain_145 : decode cX7_byRain 145 = .ok (.bipush (-4), 2) := dk_16 252 (dk_at dksX7_byRain_6 3 rfl rfl)
theorem dX7_byRain_147 : decode cX7_byRain 147 = .ok (.if_icmp .ne 13, 3) := dk_160 0 13 (dk_at dksX7_byRain_6 5 rfl rfl)
theorem dX7_byRain_150 : decode cX7_byRain 150 = .ok (.aload_n 0, 1) := dk_42 (dk_at dksX7_byRain_6 8 rfl rfl)
theorem dX7_byRain_151 : decode cX7_byRain 151 = .ok (.sipush 168, 3) := dk_17 0 168 (dk_at dksX7_byRain_6 9 rfl rfl)
theorem dX7_byRain_154 : decode cX7_byRain 154 = .ok (.invokevirtual 164, 3) := dk_182 0 164 (dk_at dksX7_byRain_6 12 rfl rfl)
theorem dX7_byRain_157 : decode cX7_byRain 157 = .ok (.goto 9, 3) := dk_167 0 9 (dk_at dksX7_byRain_6 15 rfl rfl)
theorem dX7_byRain_160 : decode cX7_byRain 160 = .ok (.iload 12, 2) := dk_21 12 (dk_at dksX7_byRain_6 18 rfl rfl)
theorem dX7_byRain_162 : decode cX7_byRain 162 = .ok (.iload_n 2, 1) := dk_28 (dk_at dksX7_byRain_6 20 rfl rfl)
theorem dX7_byRain_163 : decode cX7_byRain 163 = .ok (.ishr, 1) := dk_122 (dk_at dksX7_byRain_6 21 rfl rfl)
theorem dX7_byRain_164 : decode cX7_byRain 164 = .ok (.iconst 1, 1) := dk_4 (dk_at dksX7_byRain_6 22 rfl rfl)
theorem dX7_byRain_165 : decode cX7_byRain 165 = .ok (.iand, 1) := dk_126 (dk_at dksX7_byRain_6 23 rfl rfl)
theorem dX7_byRain_166 : decode cX7_byRain 166 = .ok (.i2l, 1) := dk_133 (dk_at dksX7_byRain_7 0 rfl rfl)
theorem dX7_byRain_167 : decode cX7_byRain 167 = .ok (.lmul, 1) := dk_105 (dk_at dksX7_byRain_7 1 rfl rfl)
theorem dX7_byRain_168 : decode cX7_byRain 168 = .ok (.ladd, 1) := dk_97 (dk_at dksX7_byRain_7 2 rfl rfl)
theorem dX7_byRain_169 : decode cX7_byRain 169 = .ok (.lstore 5, 2) := dk_55 5 (dk_at dksX7_byRain_7 3 rfl rfl)
theorem dX7_byRain_171 : decode cX7_byRain 171 = .ok (.iinc 9 1, 3) := dk_132 9 1 (dk_at dksX7_byRain_7 5 rfl rfl)
theorem dX7_byRain_174 : decode cX7_byRain 174 = .ok (.goto (-142), 3) := dk_167 255 114 (dk_at dksX7_byRain_7 8 rfl rfl)
theorem dX7_byRain_177 : decode cX7_byRain 177 = .ok (.lload 5, 2) := dk_22 5 (dk_at dksX7_byRain_7 11 rfl rfl)
theorem dX7_byRain_179 : decode cX7_byRain 179 = .ok (.lload 7, 2) := dk_22 7 (dk_at dksX7_byRain_7 13 rfl rfl)
theorem dX7_byRain_181 : decode cX7_byRain 181 = .ok (.iload 4, 2) := dk_21 4 (dk_at dksX7_byRain_7 15 rfl rfl)
theorem dX7_byRain_183 : decode cX7_byRain 183 = .ok (.invokestatic 217, 3) := dk_184 0 217 (dk_at dksX7_byRain_7 17 rfl rfl)
theorem dX7_byRain_186 : decode cX7_byRain 186 = .ok (.lreturn, 1) := dk_173 (dk_at dksX7_byRain_7 20 rfl rfl)
abbrev cX7_lowest : ByteArray := prog_11_method_53_code
def yX7_lowest : MethodName := ⟨RX7, "lowest", "(JJI)J"⟩
def dkwX7_lowest_1 : List UInt8 := [22, 9, 55, 7, 167, 255, 234, 21, 4, 154, 0, 7, 30, 167, 0, 4, 32, 22, 5, 109, 173]
abbrev dktX7_lowest_1 : List UInt8 := dkwX7_lowest_1 ++ []
def dkwX7_lowest_0 : List UInt8 := [30, 55, 5, 32, 55, 7, 22, 7, 9, 148, 153, 0, 21, 22, 5, 22, 7, 113, 55, 9, 22, 7, 55, 5]
abbrev dktX7_lowest_0 : List UInt8 := dkwX7_lowest_0 ++ dktX7_lowest_1
theorem dksX7_lowest_0 : cX7_lowest.data.toList.drop 0 = dktX7_lowest_0 := by decide +kernel
theorem dksX7_lowest_1 : cX7_lowest.data.toList.drop 24 = dktX7_lowest_1 := dk_seg dksX7_lowest_0 24 rfl rfl
theorem dX7_lowest_0 : decode cX7_lowest 0 = .ok (.lload_n 0, 1) := dk_30 (dk_at dksX7_lowest_0 0 rfl rfl)
theorem dX7_lowest_1 : decode cX7_lowest 1 = .ok (.lstore 5, 2) := dk_55 5 (dk_at dksX7_lowest_0 1 rfl rfl)
theorem dX7_lowest_3 : decode cX7_lowest 3 = .ok (.lload_n 2, 1) := dk_32 (dk_at dksX7_lowest_0 3 rfl rfl)
theorem dX7_lowest_4 : decode cX7_lowest 4 = .ok (.lstore 7, 2) := dk_55 7 (dk_at dksX7_lowest_0 4 rfl rfl)
theorem dX7_lowest_6 : decode cX7_lowest 6 = .ok (.lload 7, 2) := dk_22 7 (dk_at dksX7_lowest_0 6 rfl rfl)
theorem dX7_lowest_8 : decode cX7_lowest 8 = .ok (.lconst 0, 1) := dk_9 (dk_at dksX7_lowest_0 8 rfl rfl)
theorem dX7_lowest_9 : decode cX7_lowest 9 = .ok (.lcmp, 1) := dk_148 (dk_at dksX7_lowest_0 9 rfl rfl)
theorem dX7_lowest_10 : decode cX7_lowest 10 = .ok (.ifCond .eq 21, 3) := dk_153 0 21 (dk_at dksX7_lowest_0 10 rfl rfl)
theorem dX7_lowest_13 : decode cX7_lowest 13 = .ok (.lload 5, 2) := dk_22 5 (dk_at dksX7_lowest_0 13 rfl rfl)
theorem dX7_lowest_15 : decode cX7_lowest 15 = .ok (.lload 7, 2) := dk_22 7 (dk_at dksX7_lowest_0 15 rfl rfl)
theorem dX7_lowest_17 : decode cX7_lowest 17 = .ok (.lrem, 1) := dk_113 (dk_at dksX7_lowest_0 17 rfl rfl)
theorem dX7_lowest_18 : decode cX7_lowest 18 = .ok (.lstore 9, 2) := dk_55 9 (dk_at dksX7_lowest_0 18 rfl rfl)
theorem dX7_lowest_20 : decode cX7_lowest 20 = .ok (.lload 7, 2) := dk_22 7 (dk_at dksX7_lowest_0 20 rfl rfl)
theorem dX7_lowest_22 : decode cX7_lowest 22 = .ok (.lstore 5, 2) := dk_55 5 (dk_at dksX7_lowest_0 22 rfl rfl)
theorem dX7_lowest_24 : decode cX7_lowest 24 = .ok (.lload 9, 2) := dk_22 9 (dk_at dksX7_lowest_1 0 rfl rfl)
theorem dX7_lowest_26 : decode cX7_lowest 26 = .ok (.lstore 7, 2) := dk_55 7 (dk_at dksX7_lowest_1 2 rfl rfl)
theorem dX7_lowest_28 : decode cX7_lowest 28 = .ok (.goto (-22), 3) := dk_167 255 234 (dk_at dksX7_lowest_1 4 rfl rfl)
theorem dX7_lowest_31 : decode cX7_lowest 31 = .ok (.iload 4, 2) := dk_21 4 (dk_at dksX7_lowest_1 7 rfl rfl)
theorem dX7_lowest_33 : decode cX7_lowest 33 = .ok (.ifCond .ne 7, 3) := dk_154 0 7 (dk_at dksX7_lowest_1 9 rfl rfl)
theorem dX7_lowest_36 : decode cX7_lowest 36 = .ok (.lload_n 0, 1) := dk_30 (dk_at dksX7_lowest_1 12 rfl rfl)
theorem dX7_lowest_37 : decode cX7_lowest 37 = .ok (.goto 4, 3) := dk_167 0 4 (dk_at dksX7_lowest_1 13 rfl rfl)
theorem dX7_lowest_40 : decode cX7_lowest 40 = .ok (.lload_n 2, 1) := dk_32 (dk_at dksX7_lowest_1 16 rfl rfl)
theorem dX7_lowest_41 : decode cX7_lowest 41 = .ok (.lload 5, 2) := dk_22 5 (dk_at dksX7_lowest_1 17 rfl rfl)
theorem dX7_lowest_43 : decode cX7_lowest 43 = .ok (.ldiv, 1) := dk_109 (dk_at dksX7_lowest_1 19 rfl rfl)
theorem dX7_lowest_44 : decode cX7_lowest 44 = .ok (.lreturn, 1) := dk_173 (dk_at dksX7_lowest_1 20 rfl rfl)
abbrev cX7_mean : ByteArray := prog_11_method_56_code
def yX7_mean : MethodName := ⟨RX7, "mean", "(III)J"⟩
def dkwX7_mean_2 : List UInt8 := [20, 0, 227, 173]
abbrev dktX7_mean_2 : List UInt8 := dkwX7_mean_2 ++ []
def dkwX7_mean_1 : List UInt8 := [29, 133, 9, 10, 184, 0, 53, 153, 0, 15, 42, 27, 16, 252, 28, 29, 182, 0, 223, 167, 0, 6]
abbrev dktX7_mean_1 : List UInt8 := dkwX7_mean_1 ++ dktX7_mean_2
def dkwX7_mean_0 : List UInt8 := [27, 133, 9, 20, 0, 209, 184, 0, 53, 153, 0, 37, 28, 133, 9, 20, 0, 221, 184, 0, 53, 153, 0, 25]
abbrev dktX7_mean_0 : List UInt8 := dkwX7_mean_0 ++ dktX7_mean_1
theorem dksX7_mean_0 : cX7_mean.data.toList.drop 0 = dktX7_mean_0 := by decide +kernel
theorem dksX7_mean_1 : cX7_mean.data.toList.drop 24 = dktX7_mean_1 := dk_seg dksX7_mean_0 24 rfl rfl
theorem dksX7_mean_2 : cX7_mean.data.toList.drop 46 = dktX7_mean_2 := dk_seg dksX7_mean_1 22 rfl rfl
theorem dX7_mean_0 : decode cX7_mean 0 = .ok (.iload_n 1, 1) := dk_27 (dk_at dksX7_mean_0 0 rfl rfl)
theorem dX7_mean_1 : decode cX7_mean 1 = .ok (.i2l, 1) := dk_133 (dk_at dksX7_mean_0 1 rfl rfl)
theorem dX7_mean_2 : decode cX7_mean 2 = .ok (.lconst 0, 1) := dk_9 (dk_at dksX7_mean_0 2 rfl rfl)
theorem dX7_mean_3 : decode cX7_mean 3 = .ok (.ldc2_w 209, 3) := dk_20 0 209 (dk_at dksX7_mean_0 3 rfl rfl)
theorem dX7_mean_6 : decode cX7_mean 6 = .ok (.invokestatic 53, 3) := dk_184 0 53 (dk_at dksX7_mean_0 6 rfl rfl)
theorem dX7_mean_9 : decode cX7_mean 9 = .ok (.ifCond .eq 37, 3) := dk_153 0 37 (dk_at dksX7_mean_0 9 rfl rfl)
theorem dX7_mean_12 : decode cX7_mean 12 = .ok (.iload_n 2, 1) := dk_28 (dk_at dksX7_mean_0 12 rfl rfl)
theorem dX7_mean_13 : decode cX7_mean 13 = .ok (.i2l, 1) := dk_133 (dk_at dksX7_mean_0 13 rfl rfl)
theorem dX7_mean_14 : decode cX7_mean 14 = .ok (.lconst 0, 1) := dk_9 (dk_at dksX7_mean_0 14 rfl rfl)
theorem dX7_mean_15 : decode cX7_mean 15 = .ok (.ldc2_w 221, 3) := dk_20 0 221 (dk_at dksX7_mean_0 15 rfl rfl)
theorem dX7_mean_18 : decode cX7_mean 18 = .ok (.invokestatic 53, 3) := dk_184 0 53 (dk_at dksX7_mean_0 18 rfl rfl)
theorem dX7_mean_21 : decode cX7_mean 21 = .ok (.ifCond .eq 25, 3) := dk_153 0 25 (dk_at dksX7_mean_0 21 rfl rfl)
theorem dX7_mean_24 : decode cX7_mean 24 = .ok (.iload_n 3, 1) := dk_29 (dk_at dksX7_mean_1 0 rfl rfl)
theorem dX7_mean_25 : decode cX7_mean 25 = .ok (.i2l, 1) := dk_133 (dk_at dksX7_mean_1 1 rfl rfl)
theorem dX7_mean_26 : decode cX7_mean 26 = .ok (.lconst 0, 1) := dk_9 (dk_at dksX7_mean_1 2 rfl rfl)
theorem dX7_mean_27 : decode cX7_mean 27 = .ok (.lconst 1, 1) := dk_10 (dk_at dksX7_mean_1 3 rfl rfl)
theorem dX7_mean_28 : decode cX7_mean 28 = .ok (.invokestatic 53, 3) := dk_184 0 53 (dk_at dksX7_mean_1 4 rfl rfl)
theorem dX7_mean_31 : decode cX7_mean 31 = .ok (.ifCond .eq 15, 3) := dk_153 0 15 (dk_at dksX7_mean_1 7 rfl rfl)
theorem dX7_mean_34 : decode cX7_mean 34 = .ok (.aload_n 0, 1) := dk_42 (dk_at dksX7_mean_1 10 rfl rfl)
theorem dX7_mean_35 : decode cX7_mean 35 = .ok (.iload_n 1, 1) := dk_27 (dk_at dksX7_mean_1 11 rfl rfl)
theorem dX7_mean_36 : decode cX7_mean 36 = .ok (.bipush (-4), 2) := dk_16 252 (dk_at dksX7_mean_1 12 rfl rfl)
theorem dX7_mean_38 : decode cX7_mean 38 = .ok (.iload_n 2, 1) := dk_28 (dk_at dksX7_mean_1 14 rfl rfl)
theorem dX7_mean_39 : decode cX7_mean 39 = .ok (.iload_n 3, 1) := dk_29 (dk_at dksX7_mean_1 15 rfl rfl)
theorem dX7_mean_40 : decode cX7_mean 40 = .ok (.invokevirtual 223, 3) := dk_182 0 223 (dk_at dksX7_mean_1 16 rfl rfl)
theorem dX7_mean_43 : decode cX7_mean 43 = .ok (.goto 6, 3) := dk_167 0 6 (dk_at dksX7_mean_1 19 rfl rfl)
theorem dX7_mean_46 : decode cX7_mean 46 = .ok (.ldc2_w 227, 3) := dk_20 0 227 (dk_at dksX7_mean_2 0 rfl rfl)
theorem dX7_mean_49 : decode cX7_mean 49 = .ok (.lreturn, 1) := dk_173 (dk_at dksX7_mean_2 3 rfl rfl)
abbrev cX7_see : ByteArray := prog_11_method_57_code
def yX7_see : MethodName := ⟨RX7, "see", "(II)I"⟩
def dkwX7_see_3 : List UInt8 := [180, 0, 128, 4, 96, 181, 0, 128, 42, 180, 0, 128, 172]
abbrev dktX7_see_3 : List UInt8 := dkwX7_see_3 ++ []
def dkwX7_see_2 : List UInt8 := [180, 0, 128, 104, 27, 79, 42, 180, 0, 32, 5, 42, 180, 0, 128, 104, 4, 96, 28, 79, 42, 89]
abbrev dktX7_see_2 : List UInt8 := dkwX7_see_2 ++ dktX7_see_3
def dkwX7_see_1 : List UInt8 := [159, 0, 5, 2, 172, 42, 180, 0, 128, 16, 6, 160, 0, 6, 16, 253, 172, 42, 180, 0, 32, 5, 42]
abbrev dktX7_see_1 : List UInt8 := dkwX7_see_1 ++ dktX7_see_2
def dkwX7_see_0 : List UInt8 := [27, 133, 9, 20, 0, 180, 184, 0, 53, 153, 0, 17, 42, 28, 182, 0, 131, 154, 0, 11, 28, 16, 9]
abbrev dktX7_see_0 : List UInt8 := dkwX7_see_0 ++ dktX7_see_1
theorem dksX7_see_0 : cX7_see.data.toList.drop 0 = dktX7_see_0 := by decide +kernel
theorem dksX7_see_1 : cX7_see.data.toList.drop 23 = dktX7_see_1 := dk_seg dksX7_see_0 23 rfl rfl
theorem dksX7_see_2 : cX7_see.data.toList.drop 46 = dktX7_see_2 := dk_seg dksX7_see_1 23 rfl rfl
theorem dksX7_see_3 : cX7_see.data.toList.drop 68 = dktX7_see_3 := dk_seg dksX7_see_2 22 rfl rfl
theorem dX7_see_0 : decode cX7_see 0 = .ok (.iload_n 1, 1) := dk_27 (dk_at dksX7_see_0 0 rfl rfl)
theorem dX7_see_1 : decode cX7_see 1 = .ok (.i2l, 1) := dk_133 (dk_at dksX7_see_0 1 rfl rfl)
theorem dX7_see_2 : decode cX7_see 2 = .ok (.lconst 0, 1) := dk_9 (dk_at dksX7_see_0 2 rfl rfl)
theorem dX7_see_3 : decode cX7_see 3 = .ok (.ldc2_w 180, 3) := dk_20 0 180 (dk_at dksX7_see_0 3 rfl rfl)
theorem dX7_see_6 : decode cX7_see 6 = .ok (.invokestatic 53, 3) := dk_184 0 53 (dk_at dksX7_see_0 6 rfl rfl)
theorem dX7_see_9 : decode cX7_see 9 = .ok (.ifCond .eq 17, 3) := dk_153 0 17 (dk_at dksX7_see_0 9 rfl rfl)
theorem dX7_see_12 : decode cX7_see 12 = .ok (.aload_n 0, 1) := dk_42 (dk_at dksX7_see_0 12 rfl rfl)
theorem dX7_see_13 : decode cX7_see 13 = .ok (.iload_n 2, 1) := dk_28 (dk_at dksX7_see_0 13 rfl rfl)
theorem dX7_see_14 : decode cX7_see 14 = .ok (.invokevirtual 131, 3) := dk_182 0 131 (dk_at dksX7_see_0 14 rfl rfl)
theorem dX7_see_17 : decode cX7_see 17 = .ok (.ifCond .ne 11, 3) := dk_154 0 11 (dk_at dksX7_see_0 17 rfl rfl)
theorem dX7_see_20 : decode cX7_see 20 = .ok (.iload_n 2, 1) := dk_28 (dk_at dksX7_see_0 20 rfl rfl)
theorem dX7_see_21 : decode cX7_see 21 = .ok (.bipush 9, 2) := dk_16 9 (dk_at dksX7_see_0 21 rfl rfl)
theorem dX7_see_23 : decode cX7_see 23 = .ok (.if_icmp .eq 5, 3) := dk_159 0 5 (dk_at dksX7_see_1 0 rfl rfl)
theorem dX7_see_26 : decode cX7_see 26 = .ok (.iconst (-1), 1) := dk_2 (dk_at dksX7_see_1 3 rfl rfl)
theorem dX7_see_27 : decode cX7_see 27 = .ok (.ireturn, 1) := dk_172 (dk_at dksX7_see_1 4 rfl rfl)
theorem dX7_see_28 : decode cX7_see 28 = .ok (.aload_n 0, 1) := dk_42 (dk_at dksX7_see_1 5 rfl rfl)
theorem dX7_see_29 : decode cX7_see 29 = .ok (.getfield 128, 3) := dk_180 0 128 (dk_at dksX7_see_1 6 rfl rfl)
theorem dX7_see_32 : decode cX7_see 32 = .ok (.bipush 6, 2) := dk_16 6 (dk_at dksX7_see_1 9 rfl rfl)
theorem dX7_see_34 : decode cX7_see 34 = .ok (.if_icmp .ne 6, 3) := dk_160 0 6 (dk_at dksX7_see_1 11 rfl rfl)
theorem dX7_see_37 : decode cX7_see 37 = .ok (.bipush (-3), 2) := dk_16 253 (dk_at dksX7_see_1 14 rfl rfl)
theorem dX7_see_39 : decode cX7_see 39 = .ok (.ireturn, 1) := dk_172 (dk_at dksX7_see_1 16 rfl rfl)
theorem dX7_see_40 : decode cX7_see 40 = .ok (.aload_n 0, 1) := dk_42 (dk_at dksX7_see_1 17 rfl rfl)
theorem dX7_see_41 : decode cX7_see 41 = .ok (.getfield 32, 3) := dk_180 0 32 (dk_at dksX7_see_1 18 rfl rfl)
theorem dX7_see_44 : decode cX7_see 44 = .ok (.iconst 2, 1) := dk_5 (dk_at dksX7_see_1 21 rfl rfl)
theorem dX7_see_45 : decode cX7_see 45 = .ok (.aload_n 0, 1) := dk_42 (dk_at dksX7_see_1 22 rfl rfl)
theorem dX7_see_46 : decode cX7_see 46 = .ok (.getfield 128, 3) := dk_180 0 128 (dk_at dksX7_see_2 0 rfl rfl)
theorem dX7_see_49 : decode cX7_see 49 = .ok (.imul, 1) := dk_104 (dk_at dksX7_see_2 3 rfl rfl)
theorem dX7_see_50 : decode cX7_see 50 = .ok (.iload_n 1, 1) := dk_27 (dk_at dksX7_see_2 4 rfl rfl)
theorem dX7_see_51 : decode cX7_see 51 = .ok (.iastore, 1) := dk_79 (dk_at dksX7_see_2 5 rfl rfl)
theorem dX7_see_52 : decode cX7_see 52 = .ok (.aload_n 0, 1) := dk_42 (dk_at dksX7_see_2 6 rfl rfl)
theorem dX7_see_53 : decode cX7_see 53 = .ok (.getfield 32, 3) := dk_180 0 32 (dk_at dksX7_see_2 7 rfl rfl)
theorem dX7_see_56 : decode cX7_see 56 = .ok (.iconst 2, 1) := dk_5 (dk_at dksX7_see_2 10 rfl rfl)
theorem dX7_see_57 : decode cX7_see 57 = .ok (.aload_n 0, 1) := dk_42 (dk_at dksX7_see_2 11 rfl rfl)
theorem dX7_see_58 : decode cX7_see 58 = .ok (.getfield 128, 3) := dk_180 0 128 (dk_at dksX7_see_2 12 rfl rfl)
theorem dX7_see_61 : decode cX7_see 61 = .ok (.imul, 1) := dk_104 (dk_at dksX7_see_2 15 rfl rfl)
theorem dX7_see_62 : decode cX7_see 62 = .ok (.iconst 1, 1) := dk_4 (dk_at dksX7_see_2 16 rfl rfl)
theorem dX7_see_63 : decode cX7_see 63 = .ok (.iadd, 1) := dk_96 (dk_at dksX7_see_2 17 rfl rfl)
theorem dX7_see_64 : decode cX7_see 64 = .ok (.iload_n 2, 1) := dk_28 (dk_at dksX7_see_2 18 rfl rfl)
theorem dX7_see_65 : decode cX7_see 65 = .ok (.iastore, 1) := dk_79 (dk_at dksX7_see_2 19 rfl rfl)
theorem dX7_see_66 : decode cX7_see 66 = .ok (.aload_n 0, 1) := dk_42 (dk_at dksX7_see_2 20 rfl rfl)
theorem dX7_see_67 : decode cX7_see 67 = .ok (.dup, 1) := dk_89 (dk_at dksX7_see_2 21 rfl rfl)
theorem dX7_see_68 : decode cX7_see 68 = .ok (.getfield 128, 3) := dk_180 0 128 (dk_at dksX7_see_3 0 rfl rfl)
theorem dX7_see_71 : decode cX7_see 71 = .ok (.iconst 1, 1) := dk_4 (dk_at dksX7_see_3 3 rfl rfl)
theorem dX7_see_72 : decode cX7_see 72 = .ok (.iadd, 1) := dk_96 (dk_at dksX7_see_3 4 rfl rfl)
theorem dX7_see_73 : decode cX7_see 73 = .ok (.putfield 128, 3) := dk_181 0 128 (dk_at dksX7_see_3 5 rfl rfl)
theorem dX7_see_76 : decode cX7_see 76 = .ok (.aload_n 0, 1) := dk_42 (dk_at dksX7_see_3 8 rfl rfl)
theorem dX7_see_77 : decode cX7_see 77 = .ok (.getfield 128, 3) := dk_180 0 128 (dk_at dksX7_see_3 9 rfl rfl)
theorem dX7_see_80 : decode cX7_see 80 = .ok (.ireturn, 1) := dk_172 (dk_at dksX7_see_3 12 rfl rfl)
abbrev cX7_forget : ByteArray := prog_11_method_58_code
def yX7_forget : MethodName := ⟨RX7, "forget", "(I)I"⟩
def dkwX7_forget_1 : List UInt8 := [181, 0, 128, 28, 172]
abbrev dktX7_forget_1 : List UInt8 := dkwX7_forget_1 ++ []
def dkwX7_forget_0 : List UInt8 := [27, 133, 9, 42, 180, 0, 128, 133, 184, 0, 53, 154, 0, 5, 2, 172, 42, 180, 0, 128, 61, 42, 27]
abbrev dktX7_forget_0 : List UInt8 := dkwX7_forget_0 ++ dktX7_forget_1
theorem dksX7_forget_0 : cX7_forget.data.toList.drop 0 = dktX7_forget_0 := by decide +kernel
theorem dksX7_forget_1 : cX7_forget.data.toList.drop 23 = dktX7_forget_1 := dk_seg dksX7_forget_0 23 rfl rfl
theorem dX7_forget_0 : decode cX7_forget 0 = .ok (.iload_n 1, 1) := dk_27 (dk_at dksX7_forget_0 0 rfl rfl)
theorem dX7_forget_1 : decode cX7_forget 1 = .ok (.i2l, 1) := dk_133 (dk_at dksX7_forget_0 1 rfl rfl)
theorem dX7_forget_2 : decode cX7_forget 2 = .ok (.lconst 0, 1) := dk_9 (dk_at dksX7_forget_0 2 rfl rfl)
theorem dX7_forget_3 : decode cX7_forget 3 = .ok (.aload_n 0, 1) := dk_42 (dk_at dksX7_forget_0 3 rfl rfl)
theorem dX7_forget_4 : decode cX7_forget 4 = .ok (.getfield 128, 3) := dk_180 0 128 (dk_at dksX7_forget_0 4 rfl rfl)
theorem dX7_forget_7 : decode cX7_forget 7 = .ok (.i2l, 1) := dk_133 (dk_at dksX7_forget_0 7 rfl rfl)
theorem dX7_forget_8 : decode cX7_forget 8 = .ok (.invokestatic 53, 3) := dk_184 0 53 (dk_at dksX7_forget_0 8 rfl rfl)
theorem dX7_forget_11 : decode cX7_forget 11 = .ok (.ifCond .ne 5, 3) := dk_154 0 5 (dk_at dksX7_forget_0 11 rfl rfl)
theorem dX7_forget_14 : decode cX7_forget 14 = .ok (.iconst (-1), 1) := dk_2 (dk_at dksX7_forget_0 14 rfl rfl)
theorem dX7_forget_15 : decode cX7_forget 15 = .ok (.ireturn, 1) := dk_172 (dk_at dksX7_forget_0 15 rfl rfl)
theorem dX7_forget_16 : decode cX7_forget 16 = .ok (.aload_n 0, 1) := dk_42 (dk_at dksX7_forget_0 16 rfl rfl)
theorem dX7_forget_17 : decode cX7_forget 17 = .ok (.getfield 128, 3) := dk_180 0 128 (dk_at dksX7_forget_0 17 rfl rfl)
theorem dX7_forget_20 : decode cX7_forget 20 = .ok (.istore_n 2, 1) := dk_61 (dk_at dksX7_forget_0 20 rfl rfl)
theorem dX7_forget_21 : decode cX7_forget 21 = .ok (.aload_n 0, 1) := dk_42 (dk_at dksX7_forget_0 21 rfl rfl)
theorem dX7_forget_22 : decode cX7_forget 22 = .ok (.iload_n 1, 1) := dk_27 (dk_at dksX7_forget_0 22 rfl rfl)
theorem dX7_forget_23 : decode cX7_forget 23 = .ok (.putfield 128, 3) := dk_181 0 128 (dk_at dksX7_forget_1 0 rfl rfl)
theorem dX7_forget_26 : decode cX7_forget 26 = .ok (.iload_n 2, 1) := dk_28 (dk_at dksX7_forget_1 3 rfl rfl)
theorem dX7_forget_27 : decode cX7_forget 27 = .ok (.ireturn, 1) := dk_172 (dk_at dksX7_forget_1 4 rfl rfl)
abbrev cX7_kinds : ByteArray := prog_11_method_61_code
def yX7_kinds : MethodName := ⟨RX7, "kinds", "(I)I"⟩
def dkwX7_kinds_0 : List UInt8 := [42, 27, 182, 0, 131, 153, 0, 12, 42, 27, 6, 182, 0, 232, 167, 0, 4, 2, 172]
abbrev dktX7_kinds_0 : List UInt8 := dkwX7_kinds_0 ++ []
theorem dksX7_kinds_0 : cX7_kinds.data.toList.drop 0 = dktX7_kinds_0 := by decide +kernel
theorem dX7_kinds_0 : decode cX7_kinds 0 = .ok (.aload_n 0, 1) := dk_42 (dk_at dksX7_kinds_0 0 rfl rfl)
theorem dX7_kinds_1 : decode cX7_kinds 1 = .ok (.iload_n 1, 1) := dk_27 (dk_at dksX7_kinds_0 1 rfl rfl)
theorem dX7_kinds_2 : decode cX7_kinds 2 = .ok (.invokevirtual 131, 3) := dk_182 0 131 (dk_at dksX7_kinds_0 2 rfl rfl)
theorem dX7_kinds_5 : decode cX7_kinds 5 = .ok (.ifCond .eq 12, 3) := dk_153 0 12 (dk_at dksX7_kinds_0 5 rfl rfl)
theorem dX7_kinds_8 : decode cX7_kinds 8 = .ok (.aload_n 0, 1) := dk_42 (dk_at dksX7_kinds_0 8 rfl rfl)
theorem dX7_kinds_9 : decode cX7_kinds 9 = .ok (.iload_n 1, 1) := dk_27 (dk_at dksX7_kinds_0 9 rfl rfl)
theorem dX7_kinds_10 : decode cX7_kinds 10 = .ok (.iconst 3, 1) := dk_6 (dk_at dksX7_kinds_0 10 rfl rfl)
theorem dX7_kinds_11 : decode cX7_kinds 11 = .ok (.invokevirtual 232, 3) := dk_182 0 232 (dk_at dksX7_kinds_0 11 rfl rfl)
theorem dX7_kinds_14 : decode cX7_kinds 14 = .ok (.goto 4, 3) := dk_167 0 4 (dk_at dksX7_kinds_0 14 rfl rfl)
theorem dX7_kinds_17 : decode cX7_kinds 17 = .ok (.iconst (-1), 1) := dk_2 (dk_at dksX7_kinds_0 17 rfl rfl)
theorem dX7_kinds_18 : decode cX7_kinds 18 = .ok (.ireturn, 1) := dk_172 (dk_at dksX7_kinds_0 18 rfl rfl)
abbrev cX7_numbersAt : ByteArray := prog_11_method_60_code
def yX7_numbersAt : MethodName := ⟨RX7, "numbersAt", "(II)I"⟩
def dkwX7_numbersAt_2 : List UInt8 := [54, 4, 132, 5, 1, 167, 255, 217, 42, 180, 0, 7, 27, 29, 79, 21, 4, 172]
abbrev dktX7_numbersAt_2 : List UInt8 := dkwX7_numbersAt_2 ++ []
def dkwX7_numbersAt_1 : List UInt8 := [21, 5, 79, 21, 4, 42, 21, 5, 182, 0, 229, 153, 0, 10, 4, 21, 5, 120, 167, 0, 4, 3, 128]
abbrev dktX7_numbersAt_1 : List UInt8 := dkwX7_numbersAt_1 ++ dktX7_numbersAt_2
def dkwX7_numbersAt_0 : List UInt8 := [42, 180, 0, 7, 27, 46, 62, 3, 54, 4, 3, 54, 5, 21, 5, 28, 163, 0, 39, 42, 180, 0, 7, 27]
abbrev dktX7_numbersAt_0 : List UInt8 := dkwX7_numbersAt_0 ++ dktX7_numbersAt_1
theorem dksX7_numbersAt_0 : cX7_numbersAt.data.toList.drop 0 = dktX7_numbersAt_0 := by decide +kernel
theorem dksX7_numbersAt_1 : cX7_numbersAt.data.toList.drop 24 = dktX7_numbersAt_1 := dk_seg dksX7_numbersAt_0 24 rfl rfl
theorem dksX7_numbersAt_2 : cX7_numbersAt.data.toList.drop 47 = dktX7_numbersAt_2 := dk_seg dksX7_numbersAt_1 23 rfl rfl
theorem dX7_numbersAt_0 : decode cX7_numbersAt 0 = .ok (.aload_n 0, 1) := dk_42 (dk_at dksX7_numbersAt_0 0 rfl rfl)
theorem dX7_numbersAt_1 : decode cX7_numbersAt 1 = .ok (.getfield 7, 3) := dk_180 0 7 (dk_at dksX7_numbersAt_0 1 rfl rfl)
theorem dX7_numbersAt_4 : decode cX7_numbersAt 4 = .ok (.iload_n 1, 1) := dk_27 (dk_at dksX7_numbersAt_0 4 rfl rfl)
theorem dX7_numbersAt_5 : decode cX7_numbersAt 5 = .ok (.iaload, 1) := dk_46 (dk_at dksX7_numbersAt_0 5 rfl rfl)
theorem dX7_numbersAt_6 : decode cX7_numbersAt 6 = .ok (.istore_n 3, 1) := dk_62 (dk_at dksX7_numbersAt_0 6 rfl rfl)
theorem dX7_numbersAt_7 : decode cX7_numbersAt 7 = .ok (.iconst 0, 1) := dk_3 (dk_at dksX7_numbersAt_0 7 rfl rfl)
theorem dX7_numbersAt_8 : decode cX7_numbersAt 8 = .ok (.istore 4, 2) := dk_54 4 (dk_at dksX7_numbersAt_0 8 rfl rfl)
theorem dX7_numbersAt_10 : decode cX7_numbersAt 10 = .ok (.iconst 0, 1) := dk_3 (dk_at dksX7_numbersAt_0 10 rfl rfl)
theorem dX7_numbersAt_11 : decode cX7_numbersAt 11 = .ok (.istore 5, 2) := dk_54 5 (dk_at dksX7_numbersAt_0 11 rfl rfl)
theorem dX7_numbersAt_13 : decode cX7_numbersAt 13 = .ok (.iload 5, 2) := dk_21 5 (dk_at dksX7_numbersAt_0 13 rfl rfl)
theorem dX7_numbersAt_15 : decode cX7_numbersAt 15 = .ok (.iload_n 2, 1) := dk_28 (dk_at dksX7_numbersAt_0 15 rfl rfl)
theorem dX7_numbersAt_16 : decode cX7_numbersAt 16 = .ok (.if_icmp .gt 39, 3) := dk_163 0 39 (dk_at dksX7_numbersAt_0 16 rfl rfl)
theorem dX7_numbersAt_19 : decode cX7_numbersAt 19 = .ok (.aload_n 0, 1) := dk_42 (dk_at dksX7_numbersAt_0 19 rfl rfl)
theorem dX7_numbersAt_20 : decode cX7_numbersAt 20 = .ok (.getfield 7, 3) := dk_180 0 7 (dk_at dksX7_numbersAt_0 20 rfl rfl)
theorem dX7_numbersAt_23 : decode cX7_numbersAt 23 = .ok (.iload_n 1, 1) := dk_27 (dk_at dksX7_numbersAt_0 23 rfl rfl)
theorem dX7_numbersAt_24 : decode cX7_numbersAt 24 = .ok (.iload 5, 2) := dk_21 5 (dk_at dksX7_numbersAt_1 0 rfl rfl)
theorem dX7_numbersAt_26 : decode cX7_numbersAt 26 = .ok (.iastore, 1) := dk_79 (dk_at dksX7_numbersAt_1 2 rfl rfl)
theorem dX7_numbersAt_27 : decode cX7_numbersAt 27 = .ok (.iload 4, 2) := dk_21 4 (dk_at dksX7_numbersAt_1 3 rfl rfl)
theorem dX7_numbersAt_29 : decode cX7_numbersAt 29 = .ok (.aload_n 0, 1) := dk_42 (dk_at dksX7_numbersAt_1 5 rfl rfl)
theorem dX7_numbersAt_30 : decode cX7_numbersAt 30 = .ok (.iload 5, 2) := dk_21 5 (dk_at dksX7_numbersAt_1 6 rfl rfl)
theorem dX7_numbersAt_32 : decode cX7_numbersAt 32 = .ok (.invokevirtual 229, 3) := dk_182 0 229 (dk_at dksX7_numbersAt_1 8 rfl rfl)
theorem dX7_numbersAt_35 : decode cX7_numbersAt 35 = .ok (.ifCond .eq 10, 3) := dk_153 0 10 (dk_at dksX7_numbersAt_1 11 rfl rfl)
theorem dX7_numbersAt_38 : decode cX7_numbersAt 38 = .ok (.iconst 1, 1) := dk_4 (dk_at dksX7_numbersAt_1 14 rfl rfl)
theorem dX7_numbersAt_39 : decode cX7_numbersAt 39 = .ok (.iload 5, 2) := dk_21 5 (dk_at dksX7_numbersAt_1 15 rfl rfl)
theorem dX7_numbersAt_41 : decode cX7_numbersAt 41 = .ok (.ishl, 1) := dk_120 (dk_at dksX7_numbersAt_1 17 rfl rfl)
theorem dX7_numbersAt_42 : decode cX7_numbersAt 42 = .ok (.goto 4, 3) := dk_167 0 4 (dk_at dksX7_numbersAt_1 18 rfl rfl)
theorem dX7_numbersAt_45 : decode cX7_numbersAt 45 = .ok (.iconst 0, 1) := dk_3 (dk_at dksX7_numbersAt_1 21 rfl rfl)
theorem dX7_numbersAt_46 : decode cX7_numbersAt 46 = .ok (.ior, 1) := dk_128 (dk_at dksX7_numbersAt_1 22 rfl rfl)
theorem dX7_numbersAt_47 : decode cX7_numbersAt 47 = .ok (.istore 4, 2) := dk_54 4 (dk_at dksX7_numbersAt_2 0 rfl rfl)
theorem dX7_numbersAt_49 : decode cX7_numbersAt 49 = .ok (.iinc 5 1, 3) := dk_132 5 1 (dk_at dksX7_numbersAt_2 2 rfl rfl)
theorem dX7_numbersAt_52 : decode cX7_numbersAt 52 = .ok (.goto (-39), 3) := dk_167 255 217 (dk_at dksX7_numbersAt_2 5 rfl rfl)
theorem dX7_numbersAt_55 : decode cX7_numbersAt 55 = .ok (.aload_n 0, 1) := dk_42 (dk_at dksX7_numbersAt_2 8 rfl rfl)
theorem dX7_numbersAt_56 : decode cX7_numbersAt 56 = .ok (.getfield 7, 3) := dk_180 0 7 (dk_at dksX7_numbersAt_2 9 rfl rfl)
theorem dX7_numbersAt_59 : decode cX7_numbersAt 59 = .ok (.iload_n 1, 1) := dk_27 (dk_at dksX7_numbersAt_2 12 rfl rfl)
theorem dX7_numbersAt_60 : decode cX7_numbersAt 60 = .ok (.iload_n 3, 1) := dk_29 (dk_at dksX7_numbersAt_2 13 rfl rfl)
theorem dX7_numbersAt_61 : decode cX7_numbersAt 61 = .ok (.iastore, 1) := dk_79 (dk_at dksX7_numbersAt_2 14 rfl rfl)
theorem dX7_numbersAt_62 : decode cX7_numbersAt 62 = .ok (.iload 4, 2) := dk_21 4 (dk_at dksX7_numbersAt_2 15 rfl rfl)
theorem dX7_numbersAt_64 : decode cX7_numbersAt 64 = .ok (.ireturn, 1) := dk_172 (dk_at dksX7_numbersAt_2 17 rfl rfl)
abbrev cX7_isAsSeen : ByteArray := prog_11_method_59_code
def yX7_isAsSeen : MethodName := ⟨RX7, "isAsSeen", "(I)Z"⟩
def dkwX7_isAsSeen_5 : List UInt8 := [167, 255, 149, 28, 172]
abbrev dktX7_isAsSeen_5 : List UInt8 := dkwX7_isAsSeen_5 ++ []
def dkwX7_isAsSeen_4 : List UInt8 := [21, 5, 104, 4, 96, 46, 160, 0, 7, 4, 167, 0, 4, 3, 61, 132, 5, 1, 167, 255, 205, 132, 3, 1]
abbrev dktX7_isAsSeen_4 : List UInt8 := dkwX7_isAsSeen_4 ++ dktX7_isAsSeen_5
def dkwX7_isAsSeen_3 : List UInt8 := [28, 153, 0, 36, 42, 180, 0, 32, 5, 21, 5, 104, 46, 29, 160, 0, 19, 21, 4, 42, 180, 0, 32, 5]
abbrev dktX7_isAsSeen_3 : List UInt8 := dkwX7_isAsSeen_3 ++ dktX7_isAsSeen_4
def dkwX7_isAsSeen_2 : List UInt8 := [180, 0, 35, 16, 21, 27, 104, 29, 96, 21, 4, 79, 3, 54, 5, 21, 5, 42, 180, 0, 128, 162, 0, 48]
abbrev dktX7_isAsSeen_2 : List UInt8 := dkwX7_isAsSeen_2 ++ dktX7_isAsSeen_3
def dkwX7_isAsSeen_1 : List UInt8 := [182, 0, 191, 42, 180, 0, 142, 16, 252, 160, 0, 8, 16, 9, 167, 0, 7, 42, 180, 0, 142, 54, 4, 42]
abbrev dktX7_isAsSeen_1 : List UInt8 := dkwX7_isAsSeen_1 ++ dktX7_isAsSeen_2
def dkwX7_isAsSeen_0 : List UInt8 := [42, 3, 17, 0, 168, 182, 0, 195, 4, 61, 3, 62, 29, 16, 20, 163, 0, 107, 42, 17, 0, 168, 3]
abbrev dktX7_isAsSeen_0 : List UInt8 := dkwX7_isAsSeen_0 ++ dktX7_isAsSeen_1
theorem dksX7_isAsSeen_0 : cX7_isAsSeen.data.toList.drop 0 = dktX7_isAsSeen_0 := by decide +kernel
theorem dksX7_isAsSeen_1 : cX7_isAsSeen.data.toList.drop 23 = dktX7_isAsSeen_1 := dk_seg dksX7_isAsSeen_0 23 rfl rfl
theorem dksX7_isAsSeen_2 : cX7_isAsSeen.data.toList.drop 47 = dktX7_isAsSeen_2 := dk_seg dksX7_isAsSeen_1 24 rfl rfl
theorem dksX7_isAsSeen_3 : cX7_isAsSeen.data.toList.drop 71 = dktX7_isAsSeen_3 := dk_seg dksX7_isAsSeen_2 24 rfl rfl
theorem dksX7_isAsSeen_4 : cX7_isAsSeen.data.toList.drop 95 = dktX7_isAsSeen_4 := dk_seg dksX7_isAsSeen_3 24 rfl rfl
theorem dksX7_isAsSeen_5 : cX7_isAsSeen.data.toList.drop 119 = dktX7_isAsSeen_5 := dk_seg dksX7_isAsSeen_4 24 rfl rfl
theorem dX7_isAsSeen_0 : decode cX7_isAsSeen 0 = .ok (.aload_n 0, 1) := dk_42 (dk_at dksX7_isAsSeen_0 0 rfl rfl)
theorem dX7_isAsSeen_1 : decode cX7_isAsSeen 1 = .ok (.iconst 0, 1) := dk_3 (dk_at dksX7_isAsSeen_0 1 rfl rfl)
theorem dX7_isAsSeen_2 : decode cX7_isAsSeen 2 = .ok (.sipush 168, 3) := dk_17 0 168 (dk_at dksX7_isAsSeen_0 2 rfl rfl)
theorem dX7_isAsSeen_5 : decode cX7_isAsSeen 5 = .ok (.invokevirtual 195, 3) := dk_182 0 195 (dk_at dksX7_isAsSeen_0 5 rfl rfl)
theorem dX7_isAsSeen_8 : decode cX7_isAsSeen 8 = .ok (.iconst 1, 1) := dk_4 (dk_at dksX7_isAsSeen_0 8 rfl rfl)
theorem dX7_isAsSeen_9 : decode cX7_isAsSeen 9 = .ok (.istore_n 2, 1) := dk_61 (dk_at dksX7_isAsSeen_0 9 rfl rfl)
theorem dX7_isAsSeen_10 : decode cX7_isAsSeen 10 = .ok (.iconst 0, 1) := dk_3 (dk_at dksX7_isAsSeen_0 10 rfl rfl)
theorem dX7_isAsSeen_11 : decode cX7_isAsSeen 11 = .ok (.istore_n 3, 1) := dk_62 (dk_at dksX7_isAsSeen_0 11 rfl rfl)
theorem dX7_isAsSeen_12 : decode cX7_isAsSeen 12 = .ok (.iload_n 3, 1) := dk_29 (dk_at dksX7_isAsSeen_0 12 rfl rfl)
theorem dX7_isAsSeen_13 : decode cX7_isAsSeen 13 = .ok (.bipush 20, 2) := dk_16 20 (dk_at dksX7_isAsSeen_0 13 rfl rfl)
theorem dX7_isAsSeen_15 : decode cX7_isAsSeen 15 = .ok (.if_icmp .gt 107, 3) := dk_163 0 107 (dk_at dksX7_isAsSeen_0 15 rfl rfl)
theorem dX7_isAsSeen_18 : decode cX7_isAsSeen 18 = .ok (.aload_n 0, 1) := dk_42 (dk_at dksX7_isAsSeen_0 18 rfl rfl)
theorem dX7_isAsSeen_19 : decode cX7_isAsSeen 19 = .ok (.sipush 168, 3) := dk_17 0 168 (dk_at dksX7_isAsSeen_0 19 rfl rfl)
theorem dX7_isAsSeen_22 : decode cX7_isAsSeen 22 = .ok (.iconst 0, 1) := dk_3 (dk_at dksX7_isAsSeen_0 22 rfl rfl)
theorem dX7_isAsSeen_23 : decode cX7_isAsSeen 23 = .ok (.invokevirtual 191, 3) := dk_182 0 191 (dk_at dksX7_isAsSeen_1 0 rfl rfl)
theorem dX7_isAsSeen_26 : decode cX7_isAsSeen 26 = .ok (.aload_n 0, 1) := dk_42 (dk_at dksX7_isAsSeen_1 3 rfl rfl)
theorem dX7_isAsSeen_27 : decode cX7_isAsSeen 27 = .ok (.getfield 142, 3) := dk_180 0 142 (dk_at dksX7_isAsSeen_1 4 rfl rfl)
theorem dX7_isAsSeen_30 : decode cX7_isAsSeen 30 = .ok (.bipush (-4), 2) := dk_16 252 (dk_at dksX7_isAsSeen_1 7 rfl rfl)
theorem dX7_isAsSeen_32 : decode cX7_isAsSeen 32 = .ok (.if_icmp .ne 8, 3) := dk_160 0 8 (dk_at dksX7_isAsSeen_1 9 rfl rfl)
theorem dX7_isAsSeen_35 : decode cX7_isAsSeen 35 = .ok (.bipush 9, 2) := dk_16 9 (dk_at dksX7_isAsSeen_1 12 rfl rfl)
theorem dX7_isAsSeen_37 : decode cX7_isAsSeen 37 = .ok (.goto 7, 3) := dk_167 0 7 (dk_at dksX7_isAsSeen_1 14 rfl rfl)
theorem dX7_isAsSeen_40 : decode cX7_isAsSeen 40 = .ok (.aload_n 0, 1) := dk_42 (dk_at dksX7_isAsSeen_1 17 rfl rfl)
theorem dX7_isAsSeen_41 : decode cX7_isAsSeen 41 = .ok (.getfield 142, 3) := dk_180 0 142 (dk_at dksX7_isAsSeen_1 18 rfl rfl)
theorem dX7_isAsSeen_44 : decode cX7_isAsSeen 44 = .ok (.istore 4, 2) := dk_54 4 (dk_at dksX7_isAsSeen_1 21 rfl rfl)
theorem dX7_isAsSeen_46 : decode cX7_isAsSeen 46 = .ok (.aload_n 0, 1) := dk_42 (dk_at dksX7_isAsSeen_1 23 rfl rfl)
theorem dX7_isAsSeen_47 : decode cX7_isAsSeen 47 = .ok (.getfield 35, 3) := dk_180 0 35 (dk_at dksX7_isAsSeen_2 0 rfl rfl)
theorem dX7_isAsSeen_50 : decode cX7_isAsSeen 50 = .ok (.bipush 21, 2) := dk_16 21 (dk_at dksX7_isAsSeen_2 3 rfl rfl)
theorem dX7_isAsSeen_52 : decode cX7_isAsSeen 52 = .ok (.iload_n 1, 1) := dk_27 (dk_at dksX7_isAsSeen_2 5 rfl rfl)
theorem dX7_isAsSeen_53 : decode cX7_isAsSeen 53 = .ok (.imul, 1) := dk_104 (dk_at dksX7_isAsSeen_2 6 rfl rfl)
theorem dX7_isAsSeen_54 : decode cX7_isAsSeen 54 = .ok (.iload_n 3, 1) := dk_29 (dk_at dksX7_isAsSeen_2 7 rfl rfl)
theorem dX7_isAsSeen_55 : decode cX7_isAsSeen 55 = .ok (.iadd, 1) := dk_96 (dk_at dksX7_isAsSeen_2 8 rfl rfl)
theorem dX7_isAsSeen_56 : decode cX7_isAsSeen 56 = .ok (.iload 4, 2) := dk_21 4 (dk_at dksX7_isAsSeen_2 9 rfl rfl)
theorem dX7_isAsSeen_58 : decode cX7_isAsSeen 58 = .ok (.iastore, 1) := dk_79 (dk_at dksX7_isAsSeen_2 11 rfl rfl)
theorem dX7_isAsSeen_59 : decode cX7_isAsSeen 59 = .ok (.iconst 0, 1) := dk_3 (dk_at dksX7_isAsSeen_2 12 rfl rfl)
theorem dX7_isAsSeen_60 : decode cX7_isAsSeen 60 = .ok (.istore 5, 2) := dk_54 5 (dk_at dksX7_isAsSeen_2 13 rfl rfl)
theorem dX7_isAsSeen_62 : decode cX7_isAsSeen 62 = .ok (.iload 5, 2) := dk_21 5 (dk_at dksX7_isAsSeen_2 15 rfl rfl)
theorem dX7_isAsSeen_64 : decode cX7_isAsSeen 64 = .ok (.aload_n 0, 1) := dk_42 (dk_at dksX7_isAsSeen_2 17 rfl rfl)
theorem dX7_isAsSeen_65 : decode cX7_isAsSeen 65 = .ok (.getfield 128, 3) := dk_180 0 128 (dk_at dksX7_isAsSeen_2 18 rfl rfl)
theorem dX7_isAsSeen_68 : decode cX7_isAsSeen 68 = .ok (.if_icmp .ge 48, 3) := dk_162 0 48 (dk_at dksX7_isAsSeen_2 21 rfl rfl)
theorem dX7_isAsSeen_71 : decode cX7_isAsSeen 71 = .ok (.iload_n 2, 1) := dk_28 (dk_at dksX7_isAsSeen_3 0 rfl rfl)
theorem dX7_isAsSeen_72 : decode cX7_isAsSeen 72 = .ok (.ifCond .eq 36, 3) := dk_153 0 36 (dk_at dksX7_isAsSeen_3 1 rfl rfl)
theorem dX7_isAsSeen_75 : decode cX7_isAsSeen 75 = .ok (.aload_n 0, 1) := dk_42 (dk_at dksX7_isAsSeen_3 4 rfl rfl)
theorem dX7_isAsSeen_76 : decode cX7_isAsSeen 76 = .ok (.getfield 32, 3) := dk_180 0 32 (dk_at dksX7_isAsSeen_3 5 rfl rfl)
theorem dX7_isAsSeen_79 : decode cX7_isAsSeen 79 = .ok (.iconst 2, 1) := dk_5 (dk_at dksX7_isAsSeen_3 8 rfl rfl)
theorem dX7_isAsSeen_80 : decode cX7_isAsSeen 80 = .ok (.iload 5, 2) := dk_21 5 (dk_at dksX7_isAsSeen_3 9 rfl rfl)
theorem dX7_isAsSeen_82 : decode cX7_isAsSeen 82 = .ok (.imul, 1) := dk_104 (dk_at dksX7_isAsSeen_3 11 rfl rfl)
theorem dX7_isAsSeen_83 : decode cX7_isAsSeen 83 = .ok (.iaload, 1) := dk_46 (dk_at dksX7_isAsSeen_3 12 rfl rfl)
theorem dX7_isAsSeen_84 : decode cX7_isAsSeen 84 = .ok (.iload_n 3, 1) := dk_29 (dk_at dksX7_isAsSeen_3 13 rfl rfl)
theorem dX7_isAsSeen_85 : decode cX7_isAsSeen 85 = .ok (.if_icmp .ne 19, 3) := dk_160 0 19 (dk_at dksX7_isAsSeen_3 14 rfl rfl)
theorem dX7_isAsSeen_88 : decode cX7_isAsSeen 88 = .ok (.iload 4, 2) := dk_21 4 (dk_at dksX7_isAsSeen_3 17 rfl rfl)
theorem dX7_isAsSeen_90 : decode cX7_isAsSeen 90 = .ok (.aload_n 0, 1) := dk_42 (dk_at dksX7_isAsSeen_3 19 rfl rfl)
theorem dX7_isAsSeen_91 : decode cX7_isAsSeen 91 = .ok (.getfield 32, 3) := dk_180 0 32 (dk_at dksX7_isAsSeen_3 20 rfl rfl)
theorem dX7_isAsSeen_94 : decode cX7_isAsSeen 94 = .ok (.iconst 2, 1) := dk_5 (dk_at dksX7_isAsSeen_3 23 rfl rfl)
theorem dX7_isAsSeen_95 : decode cX7_isAsSeen 95 = .ok (.iload 5, 2) := dk_21 5 (dk_at dksX7_isAsSeen_4 0 rfl rfl)
theorem dX7_isAsSeen_97 : decode cX7_isAsSeen 97 = .ok (.imul, 1) := dk_104 (dk_at dksX7_isAsSeen_4 2 rfl rfl)
theorem dX7_isAsSeen_98 : decode cX7_isAsSeen 98 = .ok (.iconst 1, 1) := dk_4 (dk_at dksX7_isAsSeen_4 3 rfl rfl)
theorem dX7_isAsSeen_99 : decode cX7_isAsSeen 99 = .ok (.iadd, 1) := dk_96 (dk_at dksX7_isAsSeen_4 4 rfl rfl)
theorem dX7_isAsSeen_100 : decode cX7_isAsSeen 100 = .ok (.iaload, 1) := dk_46 (dk_at dksX7_isAsSeen_4 5 rfl rfl)
theorem dX7_isAsSeen_101 : decode cX7_isAsSeen 101 = .ok (.if_icmp .ne 7, 3) := dk_160 0 7 (dk_at dksX7_isAsSeen_4 6 rfl rfl)
theorem dX7_isAsSeen_104 : decode cX7_isAsSeen 104 = .ok (.iconst 1, 1) := dk_4 (dk_at dksX7_isAsSeen_4 9 rfl rfl)
theorem dX7_isAsSeen_105 : decode cX7_isAsSeen 105 = .ok (.goto 4, 3) := dk_167 0 4 (dk_at dksX7_isAsSeen_4 10 rfl rfl)
theorem dX7_isAsSeen_108 : decode cX7_isAsSeen 108 = .ok (.iconst 0, 1) := dk_3 (dk_at dksX7_isAsSeen_4 13 rfl rfl)
theorem dX7_isAsSeen_109 : decode cX7_isAsSeen 109 = .ok (.istore_n 2, 1) := dk_61 (dk_at dksX7_isAsSeen_4 14 rfl rfl)
theorem dX7_isAsSeen_110 : decode cX7_isAsSeen 110 = .ok (.iinc 5 1, 3) := dk_132 5 1 (dk_at dksX7_isAsSeen_4 15 rfl rfl)
theorem dX7_isAsSeen_113 : decode cX7_isAsSeen 113 = .ok (.goto (-51), 3) := dk_167 255 205 (dk_at dksX7_isAsSeen_4 18 rfl rfl)
theorem dX7_isAsSeen_116 : decode cX7_isAsSeen 116 = .ok (.iinc 3 1, 3) := dk_132 3 1 (dk_at dksX7_isAsSeen_4 21 rfl rfl)
theorem dX7_isAsSeen_119 : decode cX7_isAsSeen 119 = .ok (.goto (-107), 3) := dk_167 255 149 (dk_at dksX7_isAsSeen_5 0 rfl rfl)
theorem dX7_isAsSeen_122 : decode cX7_isAsSeen 122 = .ok (.iload_n 2, 1) := dk_28 (dk_at dksX7_isAsSeen_5 3 rfl rfl)
theorem dX7_isAsSeen_123 : decode cX7_isAsSeen 123 = .ok (.ireturn, 1) := dk_172 (dk_at dksX7_isAsSeen_5 4 rfl rfl)
abbrev cX7_strengths : ByteArray := prog_11_method_62_code
def yX7_strengths : MethodName := ⟨RX7, "strengths", "(I)I"⟩
def dkwX7_strengths_0 : List UInt8 := [42, 27, 182, 0, 131, 153, 0, 15, 42, 8, 27, 96, 16, 20, 182, 0, 232, 167, 0, 4, 2, 172]
abbrev dktX7_strengths_0 : List UInt8 := dkwX7_strengths_0 ++ []
theorem dksX7_strengths_0 : cX7_strengths.data.toList.drop 0 = dktX7_strengths_0 := by decide +kernel
theorem dX7_strengths_0 : decode cX7_strengths 0 = .ok (.aload_n 0, 1) := dk_42 (dk_at dksX7_strengths_0 0 rfl rfl)
theorem dX7_strengths_1 : decode cX7_strengths 1 = .ok (.iload_n 1, 1) := dk_27 (dk_at dksX7_strengths_0 1 rfl rfl)
theorem dX7_strengths_2 : decode cX7_strengths 2 = .ok (.invokevirtual 131, 3) := dk_182 0 131 (dk_at dksX7_strengths_0 2 rfl rfl)
theorem dX7_strengths_5 : decode cX7_strengths 5 = .ok (.ifCond .eq 15, 3) := dk_153 0 15 (dk_at dksX7_strengths_0 5 rfl rfl)
theorem dX7_strengths_8 : decode cX7_strengths 8 = .ok (.aload_n 0, 1) := dk_42 (dk_at dksX7_strengths_0 8 rfl rfl)
theorem dX7_strengths_9 : decode cX7_strengths 9 = .ok (.iconst 5, 1) := dk_8 (dk_at dksX7_strengths_0 9 rfl rfl)
theorem dX7_strengths_10 : decode cX7_strengths 10 = .ok (.iload_n 1, 1) := dk_27 (dk_at dksX7_strengths_0 10 rfl rfl)
theorem dX7_strengths_11 : decode cX7_strengths 11 = .ok (.iadd, 1) := dk_96 (dk_at dksX7_strengths_0 11 rfl rfl)
theorem dX7_strengths_12 : decode cX7_strengths 12 = .ok (.bipush 20, 2) := dk_16 20 (dk_at dksX7_strengths_0 12 rfl rfl)
theorem dX7_strengths_14 : decode cX7_strengths 14 = .ok (.invokevirtual 232, 3) := dk_182 0 232 (dk_at dksX7_strengths_0 14 rfl rfl)
theorem dX7_strengths_17 : decode cX7_strengths 17 = .ok (.goto 4, 3) := dk_167 0 4 (dk_at dksX7_strengths_0 17 rfl rfl)
theorem dX7_strengths_20 : decode cX7_strengths 20 = .ok (.iconst (-1), 1) := dk_2 (dk_at dksX7_strengths_0 20 rfl rfl)
theorem dX7_strengths_21 : decode cX7_strengths 21 = .ok (.ireturn, 1) := dk_172 (dk_at dksX7_strengths_0 21 rfl rfl)
abbrev cX7_ask : ByteArray := prog_11_method_63_code
def yX7_ask : MethodName := ⟨RX7, "ask", "(II)I"⟩
def dkwX7_ask_9 : List UInt8 := [159, 0, 7, 28, 154, 0, 8, 21, 5, 167, 0, 5, 21, 4, 172]
abbrev dktX7_ask_9 : List UInt8 := dkwX7_ask_9 ++ []
def dkwX7_ask_8 : List UInt8 := [162, 0, 8, 21, 7, 167, 0, 5, 21, 4, 54, 4, 132, 6, 1, 167, 255, 122, 21, 5, 16, 252]
abbrev dktX7_ask_8 : List UInt8 := dkwX7_ask_8 ++ dktX7_ask_9
def dkwX7_ask_7 : List UInt8 := [167, 255, 173, 21, 7, 21, 4, 162, 0, 8, 21, 6, 167, 0, 5, 21, 5, 54, 5, 21, 7, 21, 4]
abbrev dktX7_ask_7 : List UInt8 := dkwX7_ask_7 ++ dktX7_ask_8
def dkwX7_ask_6 : List UInt8 := [167, 255, 208, 21, 9, 21, 7, 164, 0, 8, 21, 9, 167, 0, 5, 21, 7, 54, 7, 132, 8, 1]
abbrev dktX7_ask_6 : List UInt8 := dkwX7_ask_6 ++ dktX7_ask_7
def dkwX7_ask_5 : List UInt8 := [21, 10, 104, 21, 6, 96, 46, 21, 8, 160, 0, 7, 4, 167, 0, 4, 3, 96, 54, 9, 132, 10, 1]
abbrev dktX7_ask_5 : List UInt8 := dkwX7_ask_5 ++ dktX7_ask_6
def dkwX7_ask_4 : List UInt8 := [16, 20, 163, 0, 47, 21, 9, 29, 21, 10, 122, 4, 126, 4, 160, 0, 25, 42, 180, 0, 35, 16, 21]
abbrev dktX7_ask_4 : List UInt8 := dkwX7_ask_4 ++ dktX7_ask_5
def dkwX7_ask_3 : List UInt8 := [163, 0, 133, 3, 54, 7, 3, 54, 8, 21, 8, 16, 9, 163, 0, 82, 3, 54, 9, 3, 54, 10, 21, 10]
abbrev dktX7_ask_3 : List UInt8 := dkwX7_ask_3 ++ dktX7_ask_4
def dkwX7_ask_2 : List UInt8 := [122, 4, 126, 96, 54, 4, 132, 5, 1, 167, 255, 235, 16, 252, 54, 5, 3, 54, 6, 21, 6, 16, 20]
abbrev dktX7_ask_2 : List UInt8 := dkwX7_ask_2 ++ dktX7_ask_3
def dkwX7_ask_1 : List UInt8 := [16, 20, 182, 0, 232, 62, 3, 54, 4, 3, 54, 5, 21, 5, 16, 20, 163, 0, 20, 21, 4, 29, 21, 5]
abbrev dktX7_ask_1 : List UInt8 := dkwX7_ask_1 ++ dktX7_ask_2
def dkwX7_ask_0 : List UInt8 := [42, 27, 182, 0, 131, 153, 0, 13, 28, 133, 9, 10, 184, 0, 53, 154, 0, 5, 2, 172, 42, 8, 27, 96]
abbrev dktX7_ask_0 : List UInt8 := dkwX7_ask_0 ++ dktX7_ask_1
theorem dksX7_ask_0 : cX7_ask.data.toList.drop 0 = dktX7_ask_0 := by decide +kernel
theorem dksX7_ask_1 : cX7_ask.data.toList.drop 24 = dktX7_ask_1 := dk_seg dksX7_ask_0 24 rfl rfl
theorem dksX7_ask_2 : cX7_ask.data.toList.drop 48 = dktX7_ask_2 := dk_seg dksX7_ask_1 24 rfl rfl
theorem dksX7_ask_3 : cX7_ask.data.toList.drop 71 = dktX7_ask_3 := dk_seg dksX7_ask_2 23 rfl rfl
theorem dksX7_ask_4 : cX7_ask.data.toList.drop 95 = dktX7_ask_4 := dk_seg dksX7_ask_3 24 rfl rfl
theorem dksX7_ask_5 : cX7_ask.data.toList.drop 118 = dktX7_ask_5 := dk_seg dksX7_ask_4 23 rfl rfl
theorem dksX7_ask_6 : cX7_ask.data.toList.drop 141 = dktX7_ask_6 := dk_seg dksX7_ask_5 23 rfl rfl
theorem dksX7_ask_7 : cX7_ask.data.toList.drop 163 = dktX7_ask_7 := dk_seg dksX7_ask_6 22 rfl rfl
theorem dksX7_ask_8 : cX7_ask.data.toList.drop 186 = dktX7_ask_8 := dk_seg dksX7_ask_7 23 rfl rfl
theorem dksX7_ask_9 : cX7_ask.data.toList.drop 208 = dktX7_ask_9 := dk_seg dksX7_ask_8 22 rfl rfl
theorem dX7_ask_0 : decode cX7_ask 0 = .ok (.aload_n 0, 1) := dk_42 (dk_at dksX7_ask_0 0 rfl rfl)
theorem dX7_ask_1 : decode cX7_ask 1 = .ok (.iload_n 1, 1) := dk_27 (dk_at dksX7_ask_0 1 rfl rfl)
theorem dX7_ask_2 : decode cX7_ask 2 = .ok (.invokevirtual 131, 3) := dk_182 0 131 (dk_at dksX7_ask_0 2 rfl rfl)
theorem dX7_ask_5 : decode cX7_ask 5 = .ok (.ifCond .eq 13, 3) := dk_153 0 13 (dk_at dksX7_ask_0 5 rfl rfl)
theorem dX7_ask_8 : decode cX7_ask 8 = .ok (.iload_n 2, 1) := dk_28 (dk_at dksX7_ask_0 8 rfl rfl)
theorem dX7_ask_9 : decode cX7_ask 9 = .ok (.i2l, 1) := dk_133 (dk_at dksX7_ask_0 9 rfl rfl)
theorem dX7_ask_10 : decode cX7_ask 10 = .ok (.lconst 0, 1) := dk_9 (dk_at dksX7_ask_0 10 rfl rfl)
theorem dX7_ask_11 : decode cX7_ask 11 = .ok (.lconst 1, 1) := dk_10 (dk_at dksX7_ask_0 11 rfl rfl)
theorem dX7_ask_12 : decode cX7_ask 12 = .ok (.invokestatic 53, 3) := dk_184 0 53 (dk_at dksX7_ask_0 12 rfl rfl)
theorem dX7_ask_15 : decode cX7_ask 15 = .ok (.ifCond .ne 5, 3) := dk_154 0 5 (dk_at dksX7_ask_0 15 rfl rfl)
theorem dX7_ask_18 : decode cX7_ask 18 = .ok (.iconst (-1), 1) := dk_2 (dk_at dksX7_ask_0 18 rfl rfl)
theorem dX7_ask_19 : decode cX7_ask 19 = .ok (.ireturn, 1) := dk_172 (dk_at dksX7_ask_0 19 rfl rfl)
theorem dX7_ask_20 : decode cX7_ask 20 = .ok (.aload_n 0, 1) := dk_42 (dk_at dksX7_ask_0 20 rfl rfl)
theorem dX7_ask_21 : decode cX7_ask 21 = .ok (.iconst 5, 1) := dk_8 (dk_at dksX7_ask_0 21 rfl rfl)
theorem dX7_ask_22 : decode cX7_ask 22 = .ok (.iload_n 1, 1) := dk_27 (dk_at dksX7_ask_0 22 rfl rfl)
theorem dX7_ask_23 : decode cX7_ask 23 = .ok (.iadd, 1) := dk_96 (dk_at dksX7_ask_0 23 rfl rfl)
theorem dX7_ask_24 : decode cX7_ask 24 = .ok (.bipush 20, 2) := dk_16 20 (dk_at dksX7_ask_1 0 rfl rfl)
theorem dX7_ask_26 : decode cX7_ask 26 = .ok (.invokevirtual 232, 3) := dk_182 0 232 (dk_at dksX7_ask_1 2 rfl rfl)
theorem dX7_ask_29 : decode cX7_ask 29 = .ok (.istore_n 3, 1) := dk_62 (dk_at dksX7_ask_1 5 rfl rfl)
theorem dX7_ask_30 : decode cX7_ask 30 = .ok (.iconst 0, 1) := dk_3 (dk_at dksX7_ask_1 6 rfl rfl)
theorem dX7_ask_31 : decode cX7_ask 31 = .ok (.istore 4, 2) := dk_54 4 (dk_at dksX7_ask_1 7 rfl rfl)
theorem dX7_ask_33 : decode cX7_ask 33 = .ok (.iconst 0, 1) := dk_3 (dk_at dksX7_ask_1 9 rfl rfl)
theorem dX7_ask_34 : decode cX7_ask 34 = .ok (.istore 5, 2) := dk_54 5 (dk_at dksX7_ask_1 10 rfl rfl)
theorem dX7_ask_36 : decode cX7_ask 36 = .ok (.iload 5, 2) := dk_21 5 (dk_at dksX7_ask_1 12 rfl rfl)
theorem dX7_ask_38 : decode cX7_ask 38 = .ok (.bipush 20, 2) := dk_16 20 (dk_at dksX7_ask_1 14 rfl rfl)
theorem dX7_ask_40 : decode cX7_ask 40 = .ok (.if_icmp .gt 20, 3) := dk_163 0 20 (dk_at dksX7_ask_1 16 rfl rfl)
theorem dX7_ask_43 : decode cX7_ask 43 = .ok (.iload 4, 2) := dk_21 4 (dk_at dksX7_ask_1 19 rfl rfl)
theorem dX7_ask_45 : decode cX7_ask 45 = .ok (.iload_n 3, 1) := dk_29 (dk_at dksX7_ask_1 21 rfl rfl)
theorem dX7_ask_46 : decode cX7_ask 46 = .ok (.iload 5, 2) := dk_21 5 (dk_at dksX7_ask_1 22 rfl rfl)
theorem dX7_ask_48 : decode cX7_ask 48 = .ok (.ishr, 1) := dk_122 (dk_at dksX7_ask_2 0 rfl rfl)
theorem dX7_ask_49 : decode cX7_ask 49 = .ok (.iconst 1, 1) := dk_4 (dk_at dksX7_ask_2 1 rfl rfl)
theorem dX7_ask_50 : decode cX7_ask 50 = .ok (.iand, 1) := dk_126 (dk_at dksX7_ask_2 2 rfl rfl)
theorem dX7_ask_51 : decode cX7_ask 51 = .ok (.iadd, 1) := dk_96 (dk_at dksX7_ask_2 3 rfl rfl)
theorem dX7_ask_52 : decode cX7_ask 52 = .ok (.istore 4, 2) := dk_54 4 (dk_at dksX7_ask_2 4 rfl rfl)
theorem dX7_ask_54 : decode cX7_ask 54 = .ok (.iinc 5 1, 3) := dk_132 5 1 (dk_at dksX7_ask_2 6 rfl rfl)
theorem dX7_ask_57 : decode cX7_ask 57 = .ok (.goto (-21), 3) := dk_167 255 235 (dk_at dksX7_ask_2 9 rfl rfl)
theorem dX7_ask_60 : decode cX7_ask 60 = .ok (.bipush (-4), 2) := dk_16 252 (dk_at dksX7_ask_2 12 rfl rfl)
theorem dX7_ask_62 : decode cX7_ask 62 = .ok (.istore 5, 2) := dk_54 5 (dk_at dksX7_ask_2 14 rfl rfl)
theorem dX7_ask_64 : decode cX7_ask 64 = .ok (.iconst 0, 1) := dk_3 (dk_at dksX7_ask_2 16 rfl rfl)
theorem dX7_ask_65 : decode cX7_ask 65 = .ok (.istore 6, 2) := dk_54 6 (dk_at dksX7_ask_2 17 rfl rfl)
theorem dX7_ask_67 : decode cX7_ask 67 = .ok (.iload 6, 2) := dk_21 6 (dk_at dksX7_ask_2 19 rfl rfl)
theorem dX7_ask_69 : decode cX7_ask 69 = .ok (.bipush 20, 2) := dk_16 20 (dk_at dksX7_ask_2 21 rfl rfl)
theorem dX7_ask_71 : decode cX7_ask 71 = .ok (.if_icmp .gt 133, 3) := dk_163 0 133 (dk_at dksX7_ask_3 0 rfl rfl)
theorem dX7_ask_74 : decode cX7_ask 74 = .ok (.iconst 0, 1) := dk_3 (dk_at dksX7_ask_3 3 rfl rfl)
theorem dX7_ask_75 : decode cX7_ask 75 = .ok (.istore 7, 2) := dk_54 7 (dk_at dksX7_ask_3 4 rfl rfl)
theorem dX7_ask_77 : decode cX7_ask 77 = .ok (.iconst 0, 1) := dk_3 (dk_at dksX7_ask_3 6 rfl rfl)
theorem dX7_ask_78 : decode cX7_ask 78 = .ok (.istore 8, 2) := dk_54 8 (dk_at dksX7_ask_3 7 rfl rfl)
theorem dX7_ask_80 : decode cX7_ask 80 = .ok (.iload 8, 2) := dk_21 8 (dk_at dksX7_ask_3 9 rfl rfl)
theorem dX7_ask_82 : decode cX7_ask 82 = .ok (.bipush 9, 2) := dk_16 9 (dk_at dksX7_ask_3 11 rfl rfl)
theorem dX7_ask_84 : decode cX7_ask 84 = .ok (.if_icmp .gt 82, 3) := dk_163 0 82 (dk_at dksX7_ask_3 13 rfl rfl)
theorem dX7_ask_87 : decode cX7_ask 87 = .ok (.iconst 0, 1) := dk_3 (dk_at dksX7_ask_3 16 rfl rfl)
theorem dX7_ask_88 : decode cX7_ask 88 = .ok (.istore 9, 2) := dk_54 9 (dk_at dksX7_ask_3 17 rfl rfl)
theorem dX7_ask_90 : decode cX7_ask 90 = .ok (.iconst 0, 1) := dk_3 (dk_at dksX7_ask_3 19 rfl rfl)
theorem dX7_ask_91 : decode cX7_ask 91 = .ok (.istore 10, 2) := dk_54 10 (dk_at dksX7_ask_3 20 rfl rfl)
theorem dX7_ask_93 : decode cX7_ask 93 = .ok (.iload 10, 2) := dk_21 10 (dk_at dksX7_ask_3 22 rfl rfl)
theorem dX7_ask_95 : decode cX7_ask 95 = .ok (.bipush 20, 2) := dk_16 20 (dk_at dksX7_ask_4 0 rfl rfl)
theorem dX7_ask_97 : decode cX7_ask 97 = .ok (.if_icmp .gt 47, 3) := dk_163 0 47 (dk_at dksX7_ask_4 2 rfl rfl)
theorem dX7_ask_100 : decode cX7_ask 100 = .ok (.iload 9, 2) := dk_21 9 (dk_at dksX7_ask_4 5 rfl rfl)
theorem dX7_ask_102 : decode cX7_ask 102 = .ok (.iload_n 3, 1) := dk_29 (dk_at dksX7_ask_4 7 rfl rfl)
theorem dX7_ask_103 : decode cX7_ask 103 = .ok (.iload 10, 2) := dk_21 10 (dk_at dksX7_ask_4 8 rfl rfl)
theorem dX7_ask_105 : decode cX7_ask 105 = .ok (.ishr, 1) := dk_122 (dk_at dksX7_ask_4 10 rfl rfl)
theorem dX7_ask_106 : decode cX7_ask 106 = .ok (.iconst 1, 1) := dk_4 (dk_at dksX7_ask_4 11 rfl rfl)
theorem dX7_ask_107 : decode cX7_ask 107 = .ok (.iand, 1) := dk_126 (dk_at dksX7_ask_4 12 rfl rfl)
theorem dX7_ask_108 : decode cX7_ask 108 = .ok (.iconst 1, 1) := dk_4 (dk_at dksX7_ask_4 13 rfl rfl)
theorem dX7_ask_109 : decode cX7_ask 109 = .ok (.if_icmp .ne 25, 3) := dk_160 0 25 (dk_at dksX7_ask_4 14 rfl rfl)
theorem dX7_ask_112 : decode cX7_ask 112 = .ok (.aload_n 0, 1) := dk_42 (dk_at dksX7_ask_4 17 rfl rfl)
theorem dX7_ask_113 : decode cX7_ask 113 = .ok (.getfield 35, 3) := dk_180 0 35 (dk_at dksX7_ask_4 18 rfl rfl)
theorem dX7_ask_116 : decode cX7_ask 116 = .ok (.bipush 21, 2) := dk_16 21 (dk_at dksX7_ask_4 21 rfl rfl)
theorem dX7_ask_118 : decode cX7_ask 118 = .ok (.iload 10, 2) := dk_21 10 (dk_at dksX7_ask_5 0 rfl rfl)
theorem dX7_ask_120 : decode cX7_ask 120 = .ok (.imul, 1) := dk_104 (dk_at dksX7_ask_5 2 rfl rfl)
theorem dX7_ask_121 : decode cX7_ask 121 = .ok (.iload 6, 2) := dk_21 6 (dk_at dksX7_ask_5 3 rfl rfl)
theorem dX7_ask_123 : decode cX7_ask 123 = .ok (.iadd, 1) := dk_96 (dk_at dksX7_ask_5 5 rfl rfl)
theorem dX7_ask_124 : decode cX7_ask 124 = .ok (.iaload, 1) := dk_46 (dk_at dksX7_ask_5 6 rfl rfl)
theorem dX7_ask_125 : decode cX7_ask 125 = .ok (.iload 8, 2) := dk_21 8 (dk_at dksX7_ask_5 7 rfl rfl)
theorem dX7_ask_127 : decode cX7_ask 127 = .ok (.if_icmp .ne 7, 3) := dk_160 0 7 (dk_at dksX7_ask_5 9 rfl rfl)
theorem dX7_ask_130 : decode cX7_ask 130 = .ok (.iconst 1, 1) := dk_4 (dk_at dksX7_ask_5 12 rfl rfl)
theorem dX7_ask_131 : decode cX7_ask 131 = .ok (.goto 4, 3) := dk_167 0 4 (dk_at dksX7_ask_5 13 rfl rfl)
theorem dX7_ask_134 : decode cX7_ask 134 = .ok (.iconst 0, 1) := dk_3 (dk_at dksX7_ask_5 16 rfl rfl)
theorem dX7_ask_135 : decode cX7_ask 135 = .ok (.iadd, 1) := dk_96 (dk_at dksX7_ask_5 17 rfl rfl)
theorem dX7_ask_136 : decode cX7_ask 136 = .ok (.istore 9, 2) := dk_54 9 (dk_at dksX7_ask_5 18 rfl rfl)
theorem dX7_ask_138 : decode cX7_ask 138 = .ok (.iinc 10 1, 3) := dk_132 10 1 (dk_at dksX7_ask_5 20 rfl rfl)
theorem dX7_ask_141 : decode cX7_ask 141 = .ok (.goto (-48), 3) := dk_167 255 208 (dk_at dksX7_ask_6 0 rfl rfl)
theorem dX7_ask_144 : decode cX7_ask 144 = .ok (.iload 9, 2) := dk_21 9 (dk_at dksX7_ask_6 3 rfl rfl)
theorem dX7_ask_146 : decode cX7_ask 146 = .ok (.iload 7, 2) := dk_21 7 (dk_at dksX7_ask_6 5 rfl rfl)
theorem dX7_ask_148 : decode cX7_ask 148 = .ok (.if_icmp .le 8, 3) := dk_164 0 8 (dk_at dksX7_ask_6 7 rfl rfl)
theorem dX7_ask_151 : decode cX7_ask 151 = .ok (.iload 9, 2) := dk_21 9 (dk_at dksX7_ask_6 10 rfl rfl)
theorem dX7_ask_153 : decode cX7_ask 153 = .ok (.goto 5, 3) := dk_167 0 5 (dk_at dksX7_ask_6 12 rfl rfl)
theorem dX7_ask_156 : decode cX7_ask 156 = .ok (.iload 7, 2) := dk_21 7 (dk_at dksX7_ask_6 15 rfl rfl)
theorem dX7_ask_158 : decode cX7_ask 158 = .ok (.istore 7, 2) := dk_54 7 (dk_at dksX7_ask_6 17 rfl rfl)
theorem dX7_ask_160 : decode cX7_ask 160 = .ok (.iinc 8 1, 3) := dk_132 8 1 (dk_at dksX7_ask_6 19 rfl rfl)
theorem dX7_ask_163 : decode cX7_ask 163 = .ok (.goto (-83), 3) := dk_167 255 173 (dk_at dksX7_ask_7 0 rfl rfl)
theorem dX7_ask_166 : decode cX7_ask 166 = .ok (.iload 7, 2) := dk_21 7 (dk_at dksX7_ask_7 3 rfl rfl)
theorem dX7_ask_168 : decode cX7_ask 168 = .ok (.iload 4, 2) := dk_21 4 (dk_at dksX7_ask_7 5 rfl rfl)
theorem dX7_ask_170 : decode cX7_ask 170 = .ok (.if_icmp .ge 8, 3) := dk_162 0 8 (dk_at dksX7_ask_7 7 rfl rfl)
theorem dX7_ask_173 : decode cX7_ask 173 = .ok (.iload 6, 2) := dk_21 6 (dk_at dksX7_ask_7 10 rfl rfl)
theorem dX7_ask_175 : decode cX7_ask 175 = .ok (.goto 5, 3) := dk_167 0 5 (dk_at dksX7_ask_7 12 rfl rfl)
theorem dX7_ask_178 : decode cX7_ask 178 = .ok (.iload 5, 2) := dk_21 5 (dk_at dksX7_ask_7 15 rfl rfl)
theorem dX7_ask_180 : decode cX7_ask 180 = .ok (.istore 5, 2) := dk_54 5 (dk_at dksX7_ask_7 17 rfl rfl)
theorem dX7_ask_182 : decode cX7_ask 182 = .ok (.iload 7, 2) := dk_21 7 (dk_at dksX7_ask_7 19 rfl rfl)
theorem dX7_ask_184 : decode cX7_ask 184 = .ok (.iload 4, 2) := dk_21 4 (dk_at dksX7_ask_7 21 rfl rfl)
theorem dX7_ask_186 : decode cX7_ask 186 = .ok (.if_icmp .ge 8, 3) := dk_162 0 8 (dk_at dksX7_ask_8 0 rfl rfl)
theorem dX7_ask_189 : decode cX7_ask 189 = .ok (.iload 7, 2) := dk_21 7 (dk_at dksX7_ask_8 3 rfl rfl)
theorem dX7_ask_191 : decode cX7_ask 191 = .ok (.goto 5, 3) := dk_167 0 5 (dk_at dksX7_ask_8 5 rfl rfl)
theorem dX7_ask_194 : decode cX7_ask 194 = .ok (.iload 4, 2) := dk_21 4 (dk_at dksX7_ask_8 8 rfl rfl)
theorem dX7_ask_196 : decode cX7_ask 196 = .ok (.istore 4, 2) := dk_54 4 (dk_at dksX7_ask_8 10 rfl rfl)
theorem dX7_ask_198 : decode cX7_ask 198 = .ok (.iinc 6 1, 3) := dk_132 6 1 (dk_at dksX7_ask_8 12 rfl rfl)
theorem dX7_ask_201 : decode cX7_ask 201 = .ok (.goto (-134), 3) := dk_167 255 122 (dk_at dksX7_ask_8 15 rfl rfl)
theorem dX7_ask_204 : decode cX7_ask 204 = .ok (.iload 5, 2) := dk_21 5 (dk_at dksX7_ask_8 18 rfl rfl)
theorem dX7_ask_206 : decode cX7_ask 206 = .ok (.bipush (-4), 2) := dk_16 252 (dk_at dksX7_ask_8 20 rfl rfl)
theorem dX7_ask_208 : decode cX7_ask 208 = .ok (.if_icmp .eq 7, 3) := dk_159 0 7 (dk_at dksX7_ask_9 0 rfl rfl)
theorem dX7_ask_211 : decode cX7_ask 211 = .ok (.iload_n 2, 1) := dk_28 (dk_at dksX7_ask_9 3 rfl rfl)
theorem dX7_ask_212 : decode cX7_ask 212 = .ok (.ifCond .ne 8, 3) := dk_154 0 8 (dk_at dksX7_ask_9 4 rfl rfl)
theorem dX7_ask_215 : decode cX7_ask 215 = .ok (.iload 5, 2) := dk_21 5 (dk_at dksX7_ask_9 7 rfl rfl)
theorem dX7_ask_217 : decode cX7_ask 217 = .ok (.goto 5, 3) := dk_167 0 5 (dk_at dksX7_ask_9 9 rfl rfl)
theorem dX7_ask_220 : decode cX7_ask 220 = .ok (.iload 4, 2) := dk_21 4 (dk_at dksX7_ask_9 12 rfl rfl)
theorem dX7_ask_222 : decode cX7_ask 222 = .ok (.ireturn, 1) := dk_172 (dk_at dksX7_ask_9 14 rfl rfl)
abbrev cX7_drift : ByteArray := prog_11_method_64_code
def yX7_drift : MethodName := ⟨RX7, "drift", "(III)I"⟩
def dkwX7_drift_6 : List UInt8 := [17, 0, 168, 182, 0, 164, 167, 0, 7, 42, 180, 0, 148, 172]
abbrev dktX7_drift_6 : List UInt8 := dkwX7_drift_6 ++ []
def dkwX7_drift_5 : List UInt8 := [182, 0, 154, 42, 17, 0, 168, 4, 182, 0, 191, 132, 5, 1, 167, 255, 177, 29, 154, 0, 13, 42]
abbrev dktX7_drift_5 : List UInt8 := dkwX7_drift_5 ++ dktX7_drift_6
def dkwX7_drift_4 : List UInt8 := [21, 7, 21, 7, 4, 96, 21, 6, 16, 8, 108, 42, 180, 0, 125, 4, 100, 112, 96, 42, 180, 0, 125, 112]
abbrev dktX7_drift_4 : List UInt8 := dkwX7_drift_4 ++ dktX7_drift_5
def dkwX7_drift_3 : List UInt8 := [21, 4, 16, 16, 122, 17, 127, 255, 126, 54, 6, 21, 6, 42, 180, 0, 125, 112, 54, 7, 42, 17, 0, 168]
abbrev dktX7_drift_3 : List UInt8 := dkwX7_drift_3 ++ dktX7_drift_4
def dkwX7_drift_2 : List UInt8 := [27, 54, 4, 3, 54, 5, 21, 5, 28, 162, 0, 79, 21, 4, 18, 235, 104, 17, 48, 57, 96, 54, 4]
abbrev dktX7_drift_2 : List UInt8 := dkwX7_drift_2 ++ dktX7_drift_3
def dkwX7_drift_1 : List UInt8 := [42, 180, 0, 125, 5, 162, 0, 6, 16, 254, 172, 42, 3, 17, 0, 168, 182, 0, 195, 42, 3, 181, 0, 148]
abbrev dktX7_drift_1 : List UInt8 := dkwX7_drift_1 ++ dktX7_drift_2
def dkwX7_drift_0 : List UInt8 := [28, 133, 10, 20, 0, 199, 184, 0, 53, 153, 0, 13, 29, 133, 9, 10, 184, 0, 53, 154, 0, 5, 2, 172]
abbrev dktX7_drift_0 : List UInt8 := dkwX7_drift_0 ++ dktX7_drift_1
theorem dksX7_drift_0 : cX7_drift.data.toList.drop 0 = dktX7_drift_0 := by decide +kernel
theorem dksX7_drift_1 : cX7_drift.data.toList.drop 24 = dktX7_drift_1 := dk_seg dksX7_drift_0 24 rfl rfl
theorem dksX7_drift_2 : cX7_drift.data.toList.drop 48 = dktX7_drift_2 := dk_seg dksX7_drift_1 24 rfl rfl
theorem dksX7_drift_3 : cX7_drift.data.toList.drop 71 = dktX7_drift_3 := dk_seg dksX7_drift_2 23 rfl rfl
theorem dksX7_drift_4 : cX7_drift.data.toList.drop 95 = dktX7_drift_4 := dk_seg dksX7_drift_3 24 rfl rfl
theorem dksX7_drift_5 : cX7_drift.data.toList.drop 119 = dktX7_drift_5 := dk_seg dksX7_drift_4 24 rfl rfl
theorem dksX7_drift_6 : cX7_drift.data.toList.drop 141 = dktX7_drift_6 := dk_seg dksX7_drift_5 22 rfl rfl
theorem dX7_drift_0 : decode cX7_drift 0 = .ok (.iload_n 2, 1) := dk_28 (dk_at dksX7_drift_0 0 rfl rfl)
theorem dX7_drift_1 : decode cX7_drift 1 = .ok (.i2l, 1) := dk_133 (dk_at dksX7_drift_0 1 rfl rfl)
theorem dX7_drift_2 : decode cX7_drift 2 = .ok (.lconst 1, 1) := dk_10 (dk_at dksX7_drift_0 2 rfl rfl)
theorem dX7_drift_3 : decode cX7_drift 3 = .ok (.ldc2_w 199, 3) := dk_20 0 199 (dk_at dksX7_drift_0 3 rfl rfl)
theorem dX7_drift_6 : decode cX7_drift 6 = .ok (.invokestatic 53, 3) := dk_184 0 53 (dk_at dksX7_drift_0 6 rfl rfl)
theorem dX7_drift_9 : decode cX7_drift 9 = .ok (.ifCond .eq 13, 3) := dk_153 0 13 (dk_at dksX7_drift_0 9 rfl rfl)
theorem dX7_drift_12 : decode cX7_drift 12 = .ok (.iload_n 3, 1) := dk_29 (dk_at dksX7_drift_0 12 rfl rfl)
theorem dX7_drift_13 : decode cX7_drift 13 = .ok (.i2l, 1) := dk_133 (dk_at dksX7_drift_0 13 rfl rfl)
theorem dX7_drift_14 : decode cX7_drift 14 = .ok (.lconst 0, 1) := dk_9 (dk_at dksX7_drift_0 14 rfl rfl)
theorem dX7_drift_15 : decode cX7_drift 15 = .ok (.lconst 1, 1) := dk_10 (dk_at dksX7_drift_0 15 rfl rfl)
theorem dX7_drift_16 : decode cX7_drift 16 = .ok (.invokestatic 53, 3) := dk_184 0 53 (dk_at dksX7_drift_0 16 rfl rfl)
theorem dX7_drift_19 : decode cX7_drift 19 = .ok (.ifCond .ne 5, 3) := dk_154 0 5 (dk_at dksX7_drift_0 19 rfl rfl)
theorem dX7_drift_22 : decode cX7_drift 22 = .ok (.iconst (-1), 1) := dk_2 (dk_at dksX7_drift_0 22 rfl rfl)
theorem dX7_drift_23 : decode cX7_drift 23 = .ok (.ireturn, 1) := dk_172 (dk_at dksX7_drift_0 23 rfl rfl)
theorem dX7_drift_24 : decode cX7_drift 24 = .ok (.aload_n 0, 1) := dk_42 (dk_at dksX7_drift_1 0 rfl rfl)
theorem dX7_drift_25 : decode cX7_drift 25 = .ok (.getfield 125, 3) := dk_180 0 125 (dk_at dksX7_drift_1 1 rfl rfl)
theorem dX7_drift_28 : decode cX7_drift 28 = .ok (.iconst 2, 1) := dk_5 (dk_at dksX7_drift_1 4 rfl rfl)
theorem dX7_drift_29 : decode cX7_drift 29 = .ok (.if_icmp .ge 6, 3) := dk_162 0 6 (dk_at dksX7_drift_1 5 rfl rfl)
theorem dX7_drift_32 : decode cX7_drift 32 = .ok (.bipush (-2), 2) := dk_16 254 (dk_at dksX7_drift_1 8 rfl rfl)
theorem dX7_drift_34 : decode cX7_drift 34 = .ok (.ireturn, 1) := dk_172 (dk_at dksX7_drift_1 10 rfl rfl)
theorem dX7_drift_35 : decode cX7_drift 35 = .ok (.aload_n 0, 1) := dk_42 (dk_at dksX7_drift_1 11 rfl rfl)
theorem dX7_drift_36 : decode cX7_drift 36 = .ok (.iconst 0, 1) := dk_3 (dk_at dksX7_drift_1 12 rfl rfl)
theorem dX7_drift_37 : decode cX7_drift 37 = .ok (.sipush 168, 3) := dk_17 0 168 (dk_at dksX7_drift_1 13 rfl rfl)
theorem dX7_drift_40 : decode cX7_drift 40 = .ok (.invokevirtual 195, 3) := dk_182 0 195 (dk_at dksX7_drift_1 16 rfl rfl)
theorem dX7_drift_43 : decode cX7_drift 43 = .ok (.aload_n 0, 1) := dk_42 (dk_at dksX7_drift_1 19 rfl rfl)
theorem dX7_drift_44 : decode cX7_drift 44 = .ok (.iconst 0, 1) := dk_3 (dk_at dksX7_drift_1 20 rfl rfl)
theorem dX7_drift_45 : decode cX7_drift 45 = .ok (.putfield 148, 3) := dk_181 0 148 (dk_at dksX7_drift_1 21 rfl rfl)
theorem dX7_drift_48 : decode cX7_drift 48 = .ok (.iload_n 1, 1) := dk_27 (dk_at dksX7_drift_2 0 rfl rfl)
theorem dX7_drift_49 : decode cX7_drift 49 = .ok (.istore 4, 2) := dk_54 4 (dk_at dksX7_drift_2 1 rfl rfl)
theorem dX7_drift_51 : decode cX7_drift 51 = .ok (.iconst 0, 1) := dk_3 (dk_at dksX7_drift_2 3 rfl rfl)
theorem dX7_drift_52 : decode cX7_drift 52 = .ok (.istore 5, 2) := dk_54 5 (dk_at dksX7_drift_2 4 rfl rfl)
theorem dX7_drift_54 : decode cX7_drift 54 = .ok (.iload 5, 2) := dk_21 5 (dk_at dksX7_drift_2 6 rfl rfl)
theorem dX7_drift_56 : decode cX7_drift 56 = .ok (.iload_n 2, 1) := dk_28 (dk_at dksX7_drift_2 8 rfl rfl)
theorem dX7_drift_57 : decode cX7_drift 57 = .ok (.if_icmp .ge 79, 3) := dk_162 0 79 (dk_at dksX7_drift_2 9 rfl rfl)
theorem dX7_drift_60 : decode cX7_drift 60 = .ok (.iload 4, 2) := dk_21 4 (dk_at dksX7_drift_2 12 rfl rfl)
theorem dX7_drift_62 : decode cX7_drift 62 = .ok (.ldc 235, 2) := dk_18 235 (dk_at dksX7_drift_2 14 rfl rfl)
theorem dX7_drift_64 : decode cX7_drift 64 = .ok (.imul, 1) := dk_104 (dk_at dksX7_drift_2 16 rfl rfl)
theorem dX7_drift_65 : decode cX7_drift 65 = .ok (.sipush 12345, 3) := dk_17 48 57 (dk_at dksX7_drift_2 17 rfl rfl)
theorem dX7_drift_68 : decode cX7_drift 68 = .ok (.iadd, 1) := dk_96 (dk_at dksX7_drift_2 20 rfl rfl)
theorem dX7_drift_69 : decode cX7_drift 69 = .ok (.istore 4, 2) := dk_54 4 (dk_at dksX7_drift_2 21 rfl rfl)
theorem dX7_drift_71 : decode cX7_drift 71 = .ok (.iload 4, 2) := dk_21 4 (dk_at dksX7_drift_3 0 rfl rfl)
theorem dX7_drift_73 : decode cX7_drift 73 = .ok (.bipush 16, 2) := dk_16 16 (dk_at dksX7_drift_3 2 rfl rfl)
theorem dX7_drift_75 : decode cX7_drift 75 = .ok (.ishr, 1) := dk_122 (dk_at dksX7_drift_3 4 rfl rfl)
theorem dX7_drift_76 : decode cX7_drift 76 = .ok (.sipush 32767, 3) := dk_17 127 255 (dk_at dksX7_drift_3 5 rfl rfl)
theorem dX7_drift_79 : decode cX7_drift 79 = .ok (.iand, 1) := dk_126 (dk_at dksX7_drift_3 8 rfl rfl)
theorem dX7_drift_80 : decode cX7_drift 80 = .ok (.istore 6, 2) := dk_54 6 (dk_at dksX7_drift_3 9 rfl rfl)
theorem dX7_drift_82 : decode cX7_drift 82 = .ok (.iload 6, 2) := dk_21 6 (dk_at dksX7_drift_3 11 rfl rfl)
theorem dX7_drift_84 : decode cX7_drift 84 = .ok (.aload_n 0, 1) := dk_42 (dk_at dksX7_drift_3 13 rfl rfl)
theorem dX7_drift_85 : decode cX7_drift 85 = .ok (.getfield 125, 3) := dk_180 0 125 (dk_at dksX7_drift_3 14 rfl rfl)
theorem dX7_drift_88 : decode cX7_drift 88 = .ok (.irem, 1) := dk_112 (dk_at dksX7_drift_3 17 rfl rfl)
theorem dX7_drift_89 : decode cX7_drift 89 = .ok (.istore 7, 2) := dk_54 7 (dk_at dksX7_drift_3 18 rfl rfl)
theorem dX7_drift_91 : decode cX7_drift 91 = .ok (.aload_n 0, 1) := dk_42 (dk_at dksX7_drift_3 20 rfl rfl)
theorem dX7_drift_92 : decode cX7_drift 92 = .ok (.sipush 168, 3) := dk_17 0 168 (dk_at dksX7_drift_3 21 rfl rfl)
theorem dX7_drift_95 : decode cX7_drift 95 = .ok (.iload 7, 2) := dk_21 7 (dk_at dksX7_drift_4 0 rfl rfl)
theorem dX7_drift_97 : decode cX7_drift 97 = .ok (.iload 7, 2) := dk_21 7 (dk_at dksX7_drift_4 2 rfl rfl)
theorem dX7_drift_99 : decode cX7_drift 99 = .ok (.iconst 1, 1) := dk_4 (dk_at dksX7_drift_4 4 rfl rfl)
theorem dX7_drift_100 : decode cX7_drift 100 = .ok (.iadd, 1) := dk_96 (dk_at dksX7_drift_4 5 rfl rfl)
theorem dX7_drift_101 : decode cX7_drift 101 = .ok (.iload 6, 2) := dk_21 6 (dk_at dksX7_drift_4 6 rfl rfl)
theorem dX7_drift_103 : decode cX7_drift 103 = .ok (.bipush 8, 2) := dk_16 8 (dk_at dksX7_drift_4 8 rfl rfl)
theorem dX7_drift_105 : decode cX7_drift 105 = .ok (.idiv, 1) := dk_108 (dk_at dksX7_drift_4 10 rfl rfl)
theorem dX7_drift_106 : decode cX7_drift 106 = .ok (.aload_n 0, 1) := dk_42 (dk_at dksX7_drift_4 11 rfl rfl)
theorem dX7_drift_107 : decode cX7_drift 107 = .ok (.getfield 125, 3) := dk_180 0 125 (dk_at dksX7_drift_4 12 rfl rfl)
theorem dX7_drift_110 : decode cX7_drift 110 = .ok (.iconst 1, 1) := dk_4 (dk_at dksX7_drift_4 15 rfl rfl)
theorem dX7_drift_111 : decode cX7_drift 111 = .ok (.isub, 1) := dk_100 (dk_at dksX7_drift_4 16 rfl rfl)
theorem dX7_drift_112 : decode cX7_drift 112 = .ok (.irem, 1) := dk_112 (dk_at dksX7_drift_4 17 rfl rfl)
theorem dX7_drift_113 : decode cX7_drift 113 = .ok (.iadd, 1) := dk_96 (dk_at dksX7_drift_4 18 rfl rfl)
theorem dX7_drift_114 : decode cX7_drift 114 = .ok (.aload_n 0, 1) := dk_42 (dk_at dksX7_drift_4 19 rfl rfl)
theorem dX7_drift_115 : decode cX7_drift 115 = .ok (.getfield 125, 3) := dk_180 0 125 (dk_at dksX7_drift_4 20 rfl rfl)
theorem dX7_drift_118 : decode cX7_drift 118 = .ok (.irem, 1) := dk_112 (dk_at dksX7_drift_4 23 rfl rfl)
theorem dX7_drift_119 : decode cX7_drift 119 = .ok (.invokevirtual 154, 3) := dk_182 0 154 (dk_at dksX7_drift_5 0 rfl rfl)
theorem dX7_drift_122 : decode cX7_drift 122 = .ok (.aload_n 0, 1) := dk_42 (dk_at dksX7_drift_5 3 rfl rfl)
theorem dX7_drift_123 : decode cX7_drift 123 = .ok (.sipush 168, 3) := dk_17 0 168 (dk_at dksX7_drift_5 4 rfl rfl)
theorem dX7_drift_126 : decode cX7_drift 126 = .ok (.iconst 1, 1) := dk_4 (dk_at dksX7_drift_5 7 rfl rfl)
theorem dX7_drift_127 : decode cX7_drift 127 = .ok (.invokevirtual 191, 3) := dk_182 0 191 (dk_at dksX7_drift_5 8 rfl rfl)
theorem dX7_drift_130 : decode cX7_drift 130 = .ok (.iinc 5 1, 3) := dk_132 5 1 (dk_at dksX7_drift_5 11 rfl rfl)
theorem dX7_drift_133 : decode cX7_drift 133 = .ok (.goto (-79), 3) := dk_167 255 177 (dk_at dksX7_drift_5 14 rfl rfl)
theorem dX7_drift_136 : decode cX7_drift 136 = .ok (.iload_n 3, 1) := dk_29 (dk_at dksX7_drift_5 17 rfl rfl)
theorem dX7_drift_137 : decode cX7_drift 137 = .ok (.ifCond .ne 13, 3) := dk_154 0 13 (dk_at dksX7_drift_5 18 rfl rfl)
theorem dX7_drift_140 : decode cX7_drift 140 = .ok (.aload_n 0, 1) := dk_42 (dk_at dksX7_drift_5 21 rfl rfl)
theorem dX7_drift_141 : decode cX7_drift 141 = .ok (.sipush 168, 3) := dk_17 0 168 (dk_at dksX7_drift_6 0 rfl rfl)
theorem dX7_drift_144 : decode cX7_drift 144 = .ok (.invokevirtual 164, 3) := dk_182 0 164 (dk_at dksX7_drift_6 3 rfl rfl)
theorem dX7_drift_147 : decode cX7_drift 147 = .ok (.goto 7, 3) := dk_167 0 7 (dk_at dksX7_drift_6 6 rfl rfl)
theorem dX7_drift_150 : decode cX7_drift 150 = .ok (.aload_n 0, 1) := dk_42 (dk_at dksX7_drift_6 9 rfl rfl)
theorem dX7_drift_151 : decode cX7_drift 151 = .ok (.getfield 148, 3) := dk_180 0 148 (dk_at dksX7_drift_6 10 rfl rfl)
theorem dX7_drift_154 : decode cX7_drift 154 = .ok (.ireturn, 1) := dk_172 (dk_at dksX7_drift_6 13 rfl rfl)
abbrev cX7_keep : ByteArray := prog_11_method_65_code
def yX7_keep : MethodName := ⟨RX7, "keep", "(I)I"⟩
def dkwX7_keep_1 : List UInt8 := [180, 0, 38, 27, 51, 153, 0, 7, 4, 167, 0, 4, 3, 61, 42, 180, 0, 38, 27, 4, 84, 28, 172]
abbrev dktX7_keep_1 : List UInt8 := dkwX7_keep_1 ++ []
def dkwX7_keep_0 : List UInt8 := [27, 133, 9, 10, 184, 0, 53, 154, 0, 5, 2, 172, 42, 3, 16, 42, 27, 4, 96, 104, 182, 0, 195, 42]
abbrev dktX7_keep_0 : List UInt8 := dkwX7_keep_0 ++ dktX7_keep_1
theorem dksX7_keep_0 : cX7_keep.data.toList.drop 0 = dktX7_keep_0 := by decide +kernel
theorem dksX7_keep_1 : cX7_keep.data.toList.drop 24 = dktX7_keep_1 := dk_seg dksX7_keep_0 24 rfl rfl
theorem dX7_keep_0 : decode cX7_keep 0 = .ok (.iload_n 1, 1) := dk_27 (dk_at dksX7_keep_0 0 rfl rfl)
theorem dX7_keep_1 : decode cX7_keep 1 = .ok (.i2l, 1) := dk_133 (dk_at dksX7_keep_0 1 rfl rfl)
theorem dX7_keep_2 : decode cX7_keep 2 = .ok (.lconst 0, 1) := dk_9 (dk_at dksX7_keep_0 2 rfl rfl)
theorem dX7_keep_3 : decode cX7_keep 3 = .ok (.lconst 1, 1) := dk_10 (dk_at dksX7_keep_0 3 rfl rfl)
theorem dX7_keep_4 : decode cX7_keep 4 = .ok (.invokestatic 53, 3) := dk_184 0 53 (dk_at dksX7_keep_0 4 rfl rfl)
theorem dX7_keep_7 : decode cX7_keep 7 = .ok (.ifCond .ne 5, 3) := dk_154 0 5 (dk_at dksX7_keep_0 7 rfl rfl)
theorem dX7_keep_10 : decode cX7_keep 10 = .ok (.iconst (-1), 1) := dk_2 (dk_at dksX7_keep_0 10 rfl rfl)
theorem dX7_keep_11 : decode cX7_keep 11 = .ok (.ireturn, 1) := dk_172 (dk_at dksX7_keep_0 11 rfl rfl)
theorem dX7_keep_12 : decode cX7_keep 12 = .ok (.aload_n 0, 1) := dk_42 (dk_at dksX7_keep_0 12 rfl rfl)
theorem dX7_keep_13 : decode cX7_keep 13 = .ok (.iconst 0, 1) := dk_3 (dk_at dksX7_keep_0 13 rfl rfl)
theorem dX7_keep_14 : decode cX7_keep 14 = .ok (.bipush 42, 2) := dk_16 42 (dk_at dksX7_keep_0 14 rfl rfl)
theorem dX7_keep_16 : decode cX7_keep 16 = .ok (.iload_n 1, 1) := dk_27 (dk_at dksX7_keep_0 16 rfl rfl)
theorem dX7_keep_17 : decode cX7_keep 17 = .ok (.iconst 1, 1) := dk_4 (dk_at dksX7_keep_0 17 rfl rfl)
theorem dX7_keep_18 : decode cX7_keep 18 = .ok (.iadd, 1) := dk_96 (dk_at dksX7_keep_0 18 rfl rfl)
theorem dX7_keep_19 : decode cX7_keep 19 = .ok (.imul, 1) := dk_104 (dk_at dksX7_keep_0 19 rfl rfl)
theorem dX7_keep_20 : decode cX7_keep 20 = .ok (.invokevirtual 195, 3) := dk_182 0 195 (dk_at dksX7_keep_0 20 rfl rfl)
theorem dX7_keep_23 : decode cX7_keep 23 = .ok (.aload_n 0, 1) := dk_42 (dk_at dksX7_keep_0 23 rfl rfl)
theorem dX7_keep_24 : decode cX7_keep 24 = .ok (.getfield 38, 3) := dk_180 0 38 (dk_at dksX7_keep_1 0 rfl rfl)
theorem dX7_keep_27 : decode cX7_keep 27 = .ok (.iload_n 1, 1) := dk_27 (dk_at dksX7_keep_1 3 rfl rfl)
theorem dX7_keep_28 : decode cX7_keep 28 = .ok (.baload, 1) := dk_51 (dk_at dksX7_keep_1 4 rfl rfl)
theorem dX7_keep_29 : decode cX7_keep 29 = .ok (.ifCond .eq 7, 3) := dk_153 0 7 (dk_at dksX7_keep_1 5 rfl rfl)
theorem dX7_keep_32 : decode cX7_keep 32 = .ok (.iconst 1, 1) := dk_4 (dk_at dksX7_keep_1 8 rfl rfl)
theorem dX7_keep_33 : decode cX7_keep 33 = .ok (.goto 4, 3) := dk_167 0 4 (dk_at dksX7_keep_1 9 rfl rfl)
theorem dX7_keep_36 : decode cX7_keep 36 = .ok (.iconst 0, 1) := dk_3 (dk_at dksX7_keep_1 12 rfl rfl)
theorem dX7_keep_37 : decode cX7_keep 37 = .ok (.istore_n 2, 1) := dk_61 (dk_at dksX7_keep_1 13 rfl rfl)
theorem dX7_keep_38 : decode cX7_keep 38 = .ok (.aload_n 0, 1) := dk_42 (dk_at dksX7_keep_1 14 rfl rfl)
theorem dX7_keep_39 : decode cX7_keep 39 = .ok (.getfield 38, 3) := dk_180 0 38 (dk_at dksX7_keep_1 15 rfl rfl)
theorem dX7_keep_42 : decode cX7_keep 42 = .ok (.iload_n 1, 1) := dk_27 (dk_at dksX7_keep_1 18 rfl rfl)
theorem dX7_keep_43 : decode cX7_keep 43 = .ok (.iconst 1, 1) := dk_4 (dk_at dksX7_keep_1 19 rfl rfl)
theorem dX7_keep_44 : decode cX7_keep 44 = .ok (.bastore, 1) := dk_84 (dk_at dksX7_keep_1 20 rfl rfl)
theorem dX7_keep_45 : decode cX7_keep 45 = .ok (.iload_n 2, 1) := dk_28 (dk_at dksX7_keep_1 21 rfl rfl)
theorem dX7_keep_46 : decode cX7_keep 46 = .ok (.ireturn, 1) := dk_172 (dk_at dksX7_keep_1 22 rfl rfl)
abbrev cX7_back : ByteArray := prog_11_method_66_code
def yX7_back : MethodName := ⟨RX7, "back", "(I)I"⟩
def dkwX7_back_1 : List UInt8 := [42, 16, 42, 27, 4, 96, 104, 3, 182, 0, 195, 42, 180, 0, 7, 16, 41, 46, 172]
abbrev dktX7_back_1 : List UInt8 := dkwX7_back_1 ++ []
def dkwX7_back_0 : List UInt8 := [27, 133, 9, 10, 184, 0, 53, 154, 0, 5, 2, 172, 42, 180, 0, 38, 27, 51, 154, 0, 6, 16, 254, 172]
abbrev dktX7_back_0 : List UInt8 := dkwX7_back_0 ++ dktX7_back_1
theorem dksX7_back_0 : cX7_back.data.toList.drop 0 = dktX7_back_0 := by decide +kernel
theorem dksX7_back_1 : cX7_back.data.toList.drop 24 = dktX7_back_1 := dk_seg dksX7_back_0 24 rfl rfl
theorem dX7_back_0 : decode cX7_back 0 = .ok (.iload_n 1, 1) := dk_27 (dk_at dksX7_back_0 0 rfl rfl)
theorem dX7_back_1 : decode cX7_back 1 = .ok (.i2l, 1) := dk_133 (dk_at dksX7_back_0 1 rfl rfl)
theorem dX7_back_2 : decode cX7_back 2 = .ok (.lconst 0, 1) := dk_9 (dk_at dksX7_back_0 2 rfl rfl)
theorem dX7_back_3 : decode cX7_back 3 = .ok (.lconst 1, 1) := dk_10 (dk_at dksX7_back_0 3 rfl rfl)
theorem dX7_back_4 : decode cX7_back 4 = .ok (.invokestatic 53, 3) := dk_184 0 53 (dk_at dksX7_back_0 4 rfl rfl)
theorem dX7_back_7 : decode cX7_back 7 = .ok (.ifCond .ne 5, 3) := dk_154 0 5 (dk_at dksX7_back_0 7 rfl rfl)
theorem dX7_back_10 : decode cX7_back 10 = .ok (.iconst (-1), 1) := dk_2 (dk_at dksX7_back_0 10 rfl rfl)
theorem dX7_back_11 : decode cX7_back 11 = .ok (.ireturn, 1) := dk_172 (dk_at dksX7_back_0 11 rfl rfl)
theorem dX7_back_12 : decode cX7_back 12 = .ok (.aload_n 0, 1) := dk_42 (dk_at dksX7_back_0 12 rfl rfl)
theorem dX7_back_13 : decode cX7_back 13 = .ok (.getfield 38, 3) := dk_180 0 38 (dk_at dksX7_back_0 13 rfl rfl)
theorem dX7_back_16 : decode cX7_back 16 = .ok (.iload_n 1, 1) := dk_27 (dk_at dksX7_back_0 16 rfl rfl)
theorem dX7_back_17 : decode cX7_back 17 = .ok (.baload, 1) := dk_51 (dk_at dksX7_back_0 17 rfl rfl)
theorem dX7_back_18 : decode cX7_back 18 = .ok (.ifCond .ne 6, 3) := dk_154 0 6 (dk_at dksX7_back_0 18 rfl rfl)
theorem dX7_back_21 : decode cX7_back 21 = .ok (.bipush (-2), 2) := dk_16 254 (dk_at dksX7_back_0 21 rfl rfl)
theorem dX7_back_23 : decode cX7_back 23 = .ok (.ireturn, 1) := dk_172 (dk_at dksX7_back_0 23 rfl rfl)
theorem dX7_back_24 : decode cX7_back 24 = .ok (.aload_n 0, 1) := dk_42 (dk_at dksX7_back_1 0 rfl rfl)
theorem dX7_back_25 : decode cX7_back 25 = .ok (.bipush 42, 2) := dk_16 42 (dk_at dksX7_back_1 1 rfl rfl)
theorem dX7_back_27 : decode cX7_back 27 = .ok (.iload_n 1, 1) := dk_27 (dk_at dksX7_back_1 3 rfl rfl)
theorem dX7_back_28 : decode cX7_back 28 = .ok (.iconst 1, 1) := dk_4 (dk_at dksX7_back_1 4 rfl rfl)
theorem dX7_back_29 : decode cX7_back 29 = .ok (.iadd, 1) := dk_96 (dk_at dksX7_back_1 5 rfl rfl)
theorem dX7_back_30 : decode cX7_back 30 = .ok (.imul, 1) := dk_104 (dk_at dksX7_back_1 6 rfl rfl)
theorem dX7_back_31 : decode cX7_back 31 = .ok (.iconst 0, 1) := dk_3 (dk_at dksX7_back_1 7 rfl rfl)
theorem dX7_back_32 : decode cX7_back 32 = .ok (.invokevirtual 195, 3) := dk_182 0 195 (dk_at dksX7_back_1 8 rfl rfl)
theorem dX7_back_35 : decode cX7_back 35 = .ok (.aload_n 0, 1) := dk_42 (dk_at dksX7_back_1 11 rfl rfl)
theorem dX7_back_36 : decode cX7_back 36 = .ok (.getfield 7, 3) := dk_180 0 7 (dk_at dksX7_back_1 12 rfl rfl)
theorem dX7_back_39 : decode cX7_back 39 = .ok (.bipush 41, 2) := dk_16 41 (dk_at dksX7_back_1 15 rfl rfl)
theorem dX7_back_41 : decode cX7_back 41 = .ok (.iaload, 1) := dk_46 (dk_at dksX7_back_1 17 rfl rfl)
theorem dX7_back_42 : decode cX7_back 42 = .ok (.ireturn, 1) := dk_172 (dk_at dksX7_back_1 18 rfl rfl)
abbrev cX7_sheet : ByteArray := prog_11_method_67_code
def yX7_sheet : MethodName := ⟨RX7, "sheet", "(III)I"⟩
def dkwX7_sheet_3 : List UInt8 := [21, 4, 96, 3, 79, 132, 4, 1, 167, 255, 233, 4, 172]
abbrev dktX7_sheet_3 : List UInt8 := dkwX7_sheet_3 ++ []
def dkwX7_sheet_2 : List UInt8 := [180, 0, 45, 27, 29, 79, 3, 54, 4, 21, 4, 16, 40, 162, 0, 22, 42, 180, 0, 48, 16, 40, 27, 104]
abbrev dktX7_sheet_2 : List UInt8 := dkwX7_sheet_2 ++ dktX7_sheet_3
def dkwX7_sheet_1 : List UInt8 := [29, 16, 40, 164, 0, 5, 2, 172, 29, 156, 0, 6, 16, 242, 172, 42, 180, 0, 42, 27, 28, 79, 42]
abbrev dktX7_sheet_1 : List UInt8 := dkwX7_sheet_1 ++ dktX7_sheet_2
def dkwX7_sheet_0 : List UInt8 := [27, 133, 9, 20, 0, 174, 184, 0, 53, 153, 0, 21, 28, 133, 9, 20, 0, 204, 184, 0, 53, 153, 0, 9]
abbrev dktX7_sheet_0 : List UInt8 := dkwX7_sheet_0 ++ dktX7_sheet_1
theorem dksX7_sheet_0 : cX7_sheet.data.toList.drop 0 = dktX7_sheet_0 := by decide +kernel
theorem dksX7_sheet_1 : cX7_sheet.data.toList.drop 24 = dktX7_sheet_1 := dk_seg dksX7_sheet_0 24 rfl rfl
theorem dksX7_sheet_2 : cX7_sheet.data.toList.drop 47 = dktX7_sheet_2 := dk_seg dksX7_sheet_1 23 rfl rfl
theorem dksX7_sheet_3 : cX7_sheet.data.toList.drop 71 = dktX7_sheet_3 := dk_seg dksX7_sheet_2 24 rfl rfl
theorem dX7_sheet_0 : decode cX7_sheet 0 = .ok (.iload_n 1, 1) := dk_27 (dk_at dksX7_sheet_0 0 rfl rfl)
theorem dX7_sheet_1 : decode cX7_sheet 1 = .ok (.i2l, 1) := dk_133 (dk_at dksX7_sheet_0 1 rfl rfl)
theorem dX7_sheet_2 : decode cX7_sheet 2 = .ok (.lconst 0, 1) := dk_9 (dk_at dksX7_sheet_0 2 rfl rfl)
theorem dX7_sheet_3 : decode cX7_sheet 3 = .ok (.ldc2_w 174, 3) := dk_20 0 174 (dk_at dksX7_sheet_0 3 rfl rfl)
theorem dX7_sheet_6 : decode cX7_sheet 6 = .ok (.invokestatic 53, 3) := dk_184 0 53 (dk_at dksX7_sheet_0 6 rfl rfl)
theorem dX7_sheet_9 : decode cX7_sheet 9 = .ok (.ifCond .eq 21, 3) := dk_153 0 21 (dk_at dksX7_sheet_0 9 rfl rfl)
theorem dX7_sheet_12 : decode cX7_sheet 12 = .ok (.iload_n 2, 1) := dk_28 (dk_at dksX7_sheet_0 12 rfl rfl)
theorem dX7_sheet_13 : decode cX7_sheet 13 = .ok (.i2l, 1) := dk_133 (dk_at dksX7_sheet_0 13 rfl rfl)
theorem dX7_sheet_14 : decode cX7_sheet 14 = .ok (.lconst 0, 1) := dk_9 (dk_at dksX7_sheet_0 14 rfl rfl)
theorem dX7_sheet_15 : decode cX7_sheet 15 = .ok (.ldc2_w 204, 3) := dk_20 0 204 (dk_at dksX7_sheet_0 15 rfl rfl)
theorem dX7_sheet_18 : decode cX7_sheet 18 = .ok (.invokestatic 53, 3) := dk_184 0 53 (dk_at dksX7_sheet_0 18 rfl rfl)
theorem dX7_sheet_21 : decode cX7_sheet 21 = .ok (.ifCond .eq 9, 3) := dk_153 0 9 (dk_at dksX7_sheet_0 21 rfl rfl)
theorem dX7_sheet_24 : decode cX7_sheet 24 = .ok (.iload_n 3, 1) := dk_29 (dk_at dksX7_sheet_1 0 rfl rfl)
theorem dX7_sheet_25 : decode cX7_sheet 25 = .ok (.bipush 40, 2) := dk_16 40 (dk_at dksX7_sheet_1 1 rfl rfl)
theorem dX7_sheet_27 : decode cX7_sheet 27 = .ok (.if_icmp .le 5, 3) := dk_164 0 5 (dk_at dksX7_sheet_1 3 rfl rfl)
theorem dX7_sheet_30 : decode cX7_sheet 30 = .ok (.iconst (-1), 1) := dk_2 (dk_at dksX7_sheet_1 6 rfl rfl)
theorem dX7_sheet_31 : decode cX7_sheet 31 = .ok (.ireturn, 1) := dk_172 (dk_at dksX7_sheet_1 7 rfl rfl)
theorem dX7_sheet_32 : decode cX7_sheet 32 = .ok (.iload_n 3, 1) := dk_29 (dk_at dksX7_sheet_1 8 rfl rfl)
theorem dX7_sheet_33 : decode cX7_sheet 33 = .ok (.ifCond .ge 6, 3) := dk_156 0 6 (dk_at dksX7_sheet_1 9 rfl rfl)
theorem dX7_sheet_36 : decode cX7_sheet 36 = .ok (.bipush (-14), 2) := dk_16 242 (dk_at dksX7_sheet_1 12 rfl rfl)
theorem dX7_sheet_38 : decode cX7_sheet 38 = .ok (.ireturn, 1) := dk_172 (dk_at dksX7_sheet_1 14 rfl rfl)
theorem dX7_sheet_39 : decode cX7_sheet 39 = .ok (.aload_n 0, 1) := dk_42 (dk_at dksX7_sheet_1 15 rfl rfl)
theorem dX7_sheet_40 : decode cX7_sheet 40 = .ok (.getfield 42, 3) := dk_180 0 42 (dk_at dksX7_sheet_1 16 rfl rfl)
theorem dX7_sheet_43 : decode cX7_sheet 43 = .ok (.iload_n 1, 1) := dk_27 (dk_at dksX7_sheet_1 19 rfl rfl)
theorem dX7_sheet_44 : decode cX7_sheet 44 = .ok (.iload_n 2, 1) := dk_28 (dk_at dksX7_sheet_1 20 rfl rfl)
theorem dX7_sheet_45 : decode cX7_sheet 45 = .ok (.iastore, 1) := dk_79 (dk_at dksX7_sheet_1 21 rfl rfl)
theorem dX7_sheet_46 : decode cX7_sheet 46 = .ok (.aload_n 0, 1) := dk_42 (dk_at dksX7_sheet_1 22 rfl rfl)
theorem dX7_sheet_47 : decode cX7_sheet 47 = .ok (.getfield 45, 3) := dk_180 0 45 (dk_at dksX7_sheet_2 0 rfl rfl)
theorem dX7_sheet_50 : decode cX7_sheet 50 = .ok (.iload_n 1, 1) := dk_27 (dk_at dksX7_sheet_2 3 rfl rfl)
theorem dX7_sheet_51 : decode cX7_sheet 51 = .ok (.iload_n 3, 1) := dk_29 (dk_at dksX7_sheet_2 4 rfl rfl)
theorem dX7_sheet_52 : decode cX7_sheet 52 = .ok (.iastore, 1) := dk_79 (dk_at dksX7_sheet_2 5 rfl rfl)
theorem dX7_sheet_53 : decode cX7_sheet 53 = .ok (.iconst 0, 1) := dk_3 (dk_at dksX7_sheet_2 6 rfl rfl)
theorem dX7_sheet_54 : decode cX7_sheet 54 = .ok (.istore 4, 2) := dk_54 4 (dk_at dksX7_sheet_2 7 rfl rfl)
theorem dX7_sheet_56 : decode cX7_sheet 56 = .ok (.iload 4, 2) := dk_21 4 (dk_at dksX7_sheet_2 9 rfl rfl)
theorem dX7_sheet_58 : decode cX7_sheet 58 = .ok (.bipush 40, 2) := dk_16 40 (dk_at dksX7_sheet_2 11 rfl rfl)
theorem dX7_sheet_60 : decode cX7_sheet 60 = .ok (.if_icmp .ge 22, 3) := dk_162 0 22 (dk_at dksX7_sheet_2 13 rfl rfl)
theorem dX7_sheet_63 : decode cX7_sheet 63 = .ok (.aload_n 0, 1) := dk_42 (dk_at dksX7_sheet_2 16 rfl rfl)
theorem dX7_sheet_64 : decode cX7_sheet 64 = .ok (.getfield 48, 3) := dk_180 0 48 (dk_at dksX7_sheet_2 17 rfl rfl)
theorem dX7_sheet_67 : decode cX7_sheet 67 = .ok (.bipush 40, 2) := dk_16 40 (dk_at dksX7_sheet_2 20 rfl rfl)
theorem dX7_sheet_69 : decode cX7_sheet 69 = .ok (.iload_n 1, 1) := dk_27 (dk_at dksX7_sheet_2 22 rfl rfl)
theorem dX7_sheet_70 : decode cX7_sheet 70 = .ok (.imul, 1) := dk_104 (dk_at dksX7_sheet_2 23 rfl rfl)
theorem dX7_sheet_71 : decode cX7_sheet 71 = .ok (.iload 4, 2) := dk_21 4 (dk_at dksX7_sheet_3 0 rfl rfl)
theorem dX7_sheet_73 : decode cX7_sheet 73 = .ok (.iadd, 1) := dk_96 (dk_at dksX7_sheet_3 2 rfl rfl)
theorem dX7_sheet_74 : decode cX7_sheet 74 = .ok (.iconst 0, 1) := dk_3 (dk_at dksX7_sheet_3 3 rfl rfl)
theorem dX7_sheet_75 : decode cX7_sheet 75 = .ok (.iastore, 1) := dk_79 (dk_at dksX7_sheet_3 4 rfl rfl)
theorem dX7_sheet_76 : decode cX7_sheet 76 = .ok (.iinc 4 1, 3) := dk_132 4 1 (dk_at dksX7_sheet_3 5 rfl rfl)
theorem dX7_sheet_79 : decode cX7_sheet 79 = .ok (.goto (-23), 3) := dk_167 255 233 (dk_at dksX7_sheet_3 8 rfl rfl)
theorem dX7_sheet_82 : decode cX7_sheet 82 = .ok (.iconst 1, 1) := dk_4 (dk_at dksX7_sheet_3 11 rfl rfl)
theorem dX7_sheet_83 : decode cX7_sheet 83 = .ok (.ireturn, 1) := dk_172 (dk_at dksX7_sheet_3 12 rfl rfl)
abbrev cX7_lay : ByteArray := prog_11_method_68_code
def yX7_lay : MethodName := ⟨RX7, "lay", "(III)I"⟩
def dkwX7_lay_4 : List UInt8 := [16, 16, 122, 167, 0, 4, 29, 79, 4, 172]
abbrev dktX7_lay_4 : List UInt8 := dkwX7_lay_4 ++ []
def dkwX7_lay_3 : List UInt8 := [16, 24, 120, 16, 24, 122, 167, 0, 24, 42, 180, 0, 42, 27, 46, 4, 160, 0, 13, 29, 16, 16, 120]
abbrev dktX7_lay_3 : List UInt8 := dkwX7_lay_3 ++ dktX7_lay_4
def dkwX7_lay_2 : List UInt8 := [16, 244, 172, 42, 180, 0, 48, 16, 40, 27, 104, 28, 96, 42, 180, 0, 42, 27, 46, 154, 0, 13, 29]
abbrev dktX7_lay_2 : List UInt8 := dkwX7_lay_2 ++ dktX7_lay_3
def dkwX7_lay_1 : List UInt8 := [160, 0, 6, 16, 245, 172, 28, 133, 9, 42, 180, 0, 45, 27, 46, 4, 100, 133, 184, 0, 53, 154, 0, 6]
abbrev dktX7_lay_1 : List UInt8 := dkwX7_lay_1 ++ dktX7_lay_2
def dkwX7_lay_0 : List UInt8 := [27, 133, 9, 20, 0, 174, 184, 0, 53, 154, 0, 5, 2, 172, 42, 180, 0, 42, 27, 46, 16, 252]
abbrev dktX7_lay_0 : List UInt8 := dkwX7_lay_0 ++ dktX7_lay_1
theorem dksX7_lay_0 : cX7_lay.data.toList.drop 0 = dktX7_lay_0 := by decide +kernel
theorem dksX7_lay_1 : cX7_lay.data.toList.drop 22 = dktX7_lay_1 := dk_seg dksX7_lay_0 22 rfl rfl
theorem dksX7_lay_2 : cX7_lay.data.toList.drop 46 = dktX7_lay_2 := dk_seg dksX7_lay_1 24 rfl rfl
theorem dksX7_lay_3 : cX7_lay.data.toList.drop 69 = dktX7_lay_3 := dk_seg dksX7_lay_2 23 rfl rfl
theorem dksX7_lay_4 : cX7_lay.data.toList.drop 92 = dktX7_lay_4 := dk_seg dksX7_lay_3 23 rfl rfl
theorem dX7_lay_0 : decode cX7_lay 0 = .ok (.iload_n 1, 1) := dk_27 (dk_at dksX7_lay_0 0 rfl rfl)
theorem dX7_lay_1 : decode cX7_lay 1 = .ok (.i2l, 1) := dk_133 (dk_at dksX7_lay_0 1 rfl rfl)
theorem dX7_lay_2 : decode cX7_lay 2 = .ok (.lconst 0, 1) := dk_9 (dk_at dksX7_lay_0 2 rfl rfl)
theorem dX7_lay_3 : decode cX7_lay 3 = .ok (.ldc2_w 174, 3) := dk_20 0 174 (dk_at dksX7_lay_0 3 rfl rfl)
theorem dX7_lay_6 : decode cX7_lay 6 = .ok (.invokestatic 53, 3) := dk_184 0 53 (dk_at dksX7_lay_0 6 rfl rfl)
theorem dX7_lay_9 : decode cX7_lay 9 = .ok (.ifCond .ne 5, 3) := dk_154 0 5 (dk_at dksX7_lay_0 9 rfl rfl)
theorem dX7_lay_12 : decode cX7_lay 12 = .ok (.iconst (-1), 1) := dk_2 (dk_at dksX7_lay_0 12 rfl rfl)
theorem dX7_lay_13 : decode cX7_lay 13 = .ok (.ireturn, 1) := dk_172 (dk_at dksX7_lay_0 13 rfl rfl)
theorem dX7_lay_14 : decode cX7_lay 14 = .ok (.aload_n 0, 1) := dk_42 (dk_at dksX7_lay_0 14 rfl rfl)
theorem dX7_lay_15 : decode cX7_lay 15 = .ok (.getfield 42, 3) := dk_180 0 42 (dk_at dksX7_lay_0 15 rfl rfl)
theorem dX7_lay_18 : decode cX7_lay 18 = .ok (.iload_n 1, 1) := dk_27 (dk_at dksX7_lay_0 18 rfl rfl)
theorem dX7_lay_19 : decode cX7_lay 19 = .ok (.iaload, 1) := dk_46 (dk_at dksX7_lay_0 19 rfl rfl)
theorem dX7_lay_20 : decode cX7_lay 20 = .ok (.bipush (-4), 2) := dk_16 252 (dk_at dksX7_lay_0 20 rfl rfl)
theorem dX7_lay_22 : decode cX7_lay 22 = .ok (.if_icmp .ne 6, 3) := dk_160 0 6 (dk_at dksX7_lay_1 0 rfl rfl)
theorem dX7_lay_25 : decode cX7_lay 25 = .ok (.bipush (-11), 2) := dk_16 245 (dk_at dksX7_lay_1 3 rfl rfl)
theorem dX7_lay_27 : decode cX7_lay 27 = .ok (.ireturn, 1) := dk_172 (dk_at dksX7_lay_1 5 rfl rfl)
theorem dX7_lay_28 : decode cX7_lay 28 = .ok (.iload_n 2, 1) := dk_28 (dk_at dksX7_lay_1 6 rfl rfl)
theorem dX7_lay_29 : decode cX7_lay 29 = .ok (.i2l, 1) := dk_133 (dk_at dksX7_lay_1 7 rfl rfl)
theorem dX7_lay_30 : decode cX7_lay 30 = .ok (.lconst 0, 1) := dk_9 (dk_at dksX7_lay_1 8 rfl rfl)
theorem dX7_lay_31 : decode cX7_lay 31 = .ok (.aload_n 0, 1) := dk_42 (dk_at dksX7_lay_1 9 rfl rfl)
theorem dX7_lay_32 : decode cX7_lay 32 = .ok (.getfield 45, 3) := dk_180 0 45 (dk_at dksX7_lay_1 10 rfl rfl)
theorem dX7_lay_35 : decode cX7_lay 35 = .ok (.iload_n 1, 1) := dk_27 (dk_at dksX7_lay_1 13 rfl rfl)
theorem dX7_lay_36 : decode cX7_lay 36 = .ok (.iaload, 1) := dk_46 (dk_at dksX7_lay_1 14 rfl rfl)
theorem dX7_lay_37 : decode cX7_lay 37 = .ok (.iconst 1, 1) := dk_4 (dk_at dksX7_lay_1 15 rfl rfl)
theorem dX7_lay_38 : decode cX7_lay 38 = .ok (.isub, 1) := dk_100 (dk_at dksX7_lay_1 16 rfl rfl)
theorem dX7_lay_39 : decode cX7_lay 39 = .ok (.i2l, 1) := dk_133 (dk_at dksX7_lay_1 17 rfl rfl)
theorem dX7_lay_40 : decode cX7_lay 40 = .ok (.invokestatic 53, 3) := dk_184 0 53 (dk_at dksX7_lay_1 18 rfl rfl)
theorem dX7_lay_43 : decode cX7_lay 43 = .ok (.ifCond .ne 6, 3) := dk_154 0 6 (dk_at dksX7_lay_1 21 rfl rfl)
theorem dX7_lay_46 : decode cX7_lay 46 = .ok (.bipush (-12), 2) := dk_16 244 (dk_at dksX7_lay_2 0 rfl rfl)
theorem dX7_lay_48 : decode cX7_lay 48 = .ok (.ireturn, 1) := dk_172 (dk_at dksX7_lay_2 2 rfl rfl)
theorem dX7_lay_49 : decode cX7_lay 49 = .ok (.aload_n 0, 1) := dk_42 (dk_at dksX7_lay_2 3 rfl rfl)
theorem dX7_lay_50 : decode cX7_lay 50 = .ok (.getfield 48, 3) := dk_180 0 48 (dk_at dksX7_lay_2 4 rfl rfl)
theorem dX7_lay_53 : decode cX7_lay 53 = .ok (.bipush 40, 2) := dk_16 40 (dk_at dksX7_lay_2 7 rfl rfl)
theorem dX7_lay_55 : decode cX7_lay 55 = .ok (.iload_n 1, 1) := dk_27 (dk_at dksX7_lay_2 9 rfl rfl)
theorem dX7_lay_56 : decode cX7_lay 56 = .ok (.imul, 1) := dk_104 (dk_at dksX7_lay_2 10 rfl rfl)
theorem dX7_lay_57 : decode cX7_lay 57 = .ok (.iload_n 2, 1) := dk_28 (dk_at dksX7_lay_2 11 rfl rfl)
theorem dX7_lay_58 : decode cX7_lay 58 = .ok (.iadd, 1) := dk_96 (dk_at dksX7_lay_2 12 rfl rfl)
theorem dX7_lay_59 : decode cX7_lay 59 = .ok (.aload_n 0, 1) := dk_42 (dk_at dksX7_lay_2 13 rfl rfl)
theorem dX7_lay_60 : decode cX7_lay 60 = .ok (.getfield 42, 3) := dk_180 0 42 (dk_at dksX7_lay_2 14 rfl rfl)
theorem dX7_lay_63 : decode cX7_lay 63 = .ok (.iload_n 1, 1) := dk_27 (dk_at dksX7_lay_2 17 rfl rfl)
theorem dX7_lay_64 : decode cX7_lay 64 = .ok (.iaload, 1) := dk_46 (dk_at dksX7_lay_2 18 rfl rfl)
theorem dX7_lay_65 : decode cX7_lay 65 = .ok (.ifCond .ne 13, 3) := dk_154 0 13 (dk_at dksX7_lay_2 19 rfl rfl)
theorem dX7_lay_68 : decode cX7_lay 68 = .ok (.iload_n 3, 1) := dk_29 (dk_at dksX7_lay_2 22 rfl rfl)
theorem dX7_lay_69 : decode cX7_lay 69 = .ok (.bipush 24, 2) := dk_16 24 (dk_at dksX7_lay_3 0 rfl rfl)
theorem dX7_lay_71 : decode cX7_lay 71 = .ok (.ishl, 1) := dk_120 (dk_at dksX7_lay_3 2 rfl rfl)
theorem dX7_lay_72 : decode cX7_lay 72 = .ok (.bipush 24, 2) := dk_16 24 (dk_at dksX7_lay_3 3 rfl rfl)
theorem dX7_lay_74 : decode cX7_lay 74 = .ok (.ishr, 1) := dk_122 (dk_at dksX7_lay_3 5 rfl rfl)
theorem dX7_lay_75 : decode cX7_lay 75 = .ok (.goto 24, 3) := dk_167 0 24 (dk_at dksX7_lay_3 6 rfl rfl)
theorem dX7_lay_78 : decode cX7_lay 78 = .ok (.aload_n 0, 1) := dk_42 (dk_at dksX7_lay_3 9 rfl rfl)
theorem dX7_lay_79 : decode cX7_lay 79 = .ok (.getfield 42, 3) := dk_180 0 42 (dk_at dksX7_lay_3 10 rfl rfl)
theorem dX7_lay_82 : decode cX7_lay 82 = .ok (.iload_n 1, 1) := dk_27 (dk_at dksX7_lay_3 13 rfl rfl)
theorem dX7_lay_83 : decode cX7_lay 83 = .ok (.iaload, 1) := dk_46 (dk_at dksX7_lay_3 14 rfl rfl)
theorem dX7_lay_84 : decode cX7_lay 84 = .ok (.iconst 1, 1) := dk_4 (dk_at dksX7_lay_3 15 rfl rfl)
theorem dX7_lay_85 : decode cX7_lay 85 = .ok (.if_icmp .ne 13, 3) := dk_160 0 13 (dk_at dksX7_lay_3 16 rfl rfl)
theorem dX7_lay_88 : decode cX7_lay 88 = .ok (.iload_n 3, 1) := dk_29 (dk_at dksX7_lay_3 19 rfl rfl)
theorem dX7_lay_89 : decode cX7_lay 89 = .ok (.bipush 16, 2) := dk_16 16 (dk_at dksX7_lay_3 20 rfl rfl)
theorem dX7_lay_91 : decode cX7_lay 91 = .ok (.ishl, 1) := dk_120 (dk_at dksX7_lay_3 22 rfl rfl)
theorem dX7_lay_92 : decode cX7_lay 92 = .ok (.bipush 16, 2) := dk_16 16 (dk_at dksX7_lay_4 0 rfl rfl)
theorem dX7_lay_94 : decode cX7_lay 94 = .ok (.ishr, 1) := dk_122 (dk_at dksX7_lay_4 2 rfl rfl)
theorem dX7_lay_95 : decode cX7_lay 95 = .ok (.goto 4, 3) := dk_167 0 4 (dk_at dksX7_lay_4 3 rfl rfl)
theorem dX7_lay_98 : decode cX7_lay 98 = .ok (.iload_n 3, 1) := dk_29 (dk_at dksX7_lay_4 6 rfl rfl)
theorem dX7_lay_99 : decode cX7_lay 99 = .ok (.iastore, 1) := dk_79 (dk_at dksX7_lay_4 7 rfl rfl)
theorem dX7_lay_100 : decode cX7_lay 100 = .ok (.iconst 1, 1) := dk_4 (dk_at dksX7_lay_4 8 rfl rfl)
theorem dX7_lay_101 : decode cX7_lay 101 = .ok (.ireturn, 1) := dk_172 (dk_at dksX7_lay_4 9 rfl rfl)
abbrev cX7_read : ByteArray := prog_11_method_69_code
def yX7_read : MethodName := ⟨RX7, "read", "(IIII)I"⟩
def dkwX7_read_8 : List UInt8 := [172, 132, 6, 1, 132, 7, 1, 167, 255, 118, 42, 21, 5, 181, 0, 236, 21, 6, 172]
abbrev dktX7_read_8 : List UInt8 := dkwX7_read_8 ++ []
def dkwX7_read_7 : List UInt8 := [180, 0, 48, 21, 8, 46, 182, 0, 186, 156, 0, 16, 42, 16, 126, 3, 182, 0, 195, 16, 236, 21, 6, 100]
abbrev dktX7_read_7 : List UInt8 := dkwX7_read_7 ++ dktX7_read_8
def dkwX7_read_6 : List UInt8 := [16, 40, 27, 104, 29, 96, 21, 7, 96, 54, 8, 42, 42, 180, 0, 48, 21, 8, 4, 100, 46, 42]
abbrev dktX7_read_6 : List UInt8 := dkwX7_read_6 ++ dktX7_read_7
def dkwX7_read_5 : List UInt8 := [154, 0, 7, 5, 167, 0, 4, 3, 54, 5, 21, 5, 154, 0, 61, 21, 7, 5, 112, 4, 160, 0, 53]
abbrev dktX7_read_5 : List UInt8 := dkwX7_read_5 ++ dktX7_read_6
def dkwX7_read_4 : List UInt8 := [6, 167, 0, 30, 29, 133, 21, 7, 133, 97, 9, 42, 180, 0, 45, 27, 46, 4, 100, 133, 184, 0, 53]
abbrev dktX7_read_4 : List UInt8 := dkwX7_read_4 ++ dktX7_read_5
def dkwX7_read_3 : List UInt8 := [180, 0, 42, 27, 46, 16, 252, 160, 0, 7, 4, 167, 0, 44, 42, 180, 0, 42, 27, 46, 28, 159, 0, 7]
abbrev dktX7_read_3 : List UInt8 := dkwX7_read_3 ++ dktX7_read_4
def dkwX7_read_2 : List UInt8 := [54, 5, 3, 54, 6, 3, 54, 7, 21, 7, 5, 21, 4, 104, 162, 0, 135, 21, 5, 154, 0, 130, 42]
abbrev dktX7_read_2 : List UInt8 := dkwX7_read_2 ++ dktX7_read_3
def dkwX7_read_1 : List UInt8 := [21, 4, 133, 9, 20, 0, 180, 184, 0, 53, 154, 0, 5, 2, 172, 42, 3, 16, 126, 182, 0, 195, 3]
abbrev dktX7_read_1 : List UInt8 := dkwX7_read_1 ++ dktX7_read_2
def dkwX7_read_0 : List UInt8 := [27, 133, 9, 20, 0, 174, 184, 0, 53, 153, 0, 28, 28, 133, 9, 20, 0, 204, 184, 0, 53, 153, 0, 16]
abbrev dktX7_read_0 : List UInt8 := dkwX7_read_0 ++ dktX7_read_1
theorem dksX7_read_0 : cX7_read.data.toList.drop 0 = dktX7_read_0 := by decide +kernel
theorem dksX7_read_1 : cX7_read.data.toList.drop 24 = dktX7_read_1 := dk_seg dksX7_read_0 24 rfl rfl
theorem dksX7_read_2 : cX7_read.data.toList.drop 47 = dktX7_read_2 := dk_seg dksX7_read_1 23 rfl rfl
theorem dksX7_read_3 : cX7_read.data.toList.drop 70 = dktX7_read_3 := dk_seg dksX7_read_2 23 rfl rfl
theorem dksX7_read_4 : cX7_read.data.toList.drop 94 = dktX7_read_4 := dk_seg dksX7_read_3 24 rfl rfl
theorem dksX7_read_5 : cX7_read.data.toList.drop 117 = dktX7_read_5 := dk_seg dksX7_read_4 23 rfl rfl
theorem dksX7_read_6 : cX7_read.data.toList.drop 140 = dktX7_read_6 := dk_seg dksX7_read_5 23 rfl rfl
theorem dksX7_read_7 : cX7_read.data.toList.drop 162 = dktX7_read_7 := dk_seg dksX7_read_6 22 rfl rfl
theorem dksX7_read_8 : cX7_read.data.toList.drop 186 = dktX7_read_8 := dk_seg dksX7_read_7 24 rfl rfl
theorem dX7_read_0 : decode cX7_read 0 = .ok (.iload_n 1, 1) := dk_27 (dk_at dksX7_read_0 0 rfl rfl)
theorem dX7_read_1 : decode cX7_read 1 = .ok (.i2l, 1) := dk_133 (dk_at dksX7_read_0 1 rfl rfl)
theorem dX7_read_2 : decode cX7_read 2 = .ok (.lconst 0, 1) := dk_9 (dk_at dksX7_read_0 2 rfl rfl)
theorem dX7_read_3 : decode cX7_read 3 = .ok (.ldc2_w 174, 3) := dk_20 0 174 (dk_at dksX7_read_0 3 rfl rfl)
theorem dX7_read_6 : decode cX7_read 6 = .ok (.invokestatic 53, 3) := dk_184 0 53 (dk_at dksX7_read_0 6 rfl rfl)
theorem dX7_read_9 : decode cX7_read 9 = .ok (.ifCond .eq 28, 3) := dk_153 0 28 (dk_at dksX7_read_0 9 rfl rfl)
theorem dX7_read_12 : decode cX7_read 12 = .ok (.iload_n 2, 1) := dk_28 (dk_at dksX7_read_0 12 rfl rfl)
theorem dX7_read_13 : decode cX7_read 13 = .ok (.i2l, 1) := dk_133 (dk_at dksX7_read_0 13 rfl rfl)
theorem dX7_read_14 : decode cX7_read 14 = .ok (.lconst 0, 1) := dk_9 (dk_at dksX7_read_0 14 rfl rfl)
theorem dX7_read_15 : decode cX7_read 15 = .ok (.ldc2_w 204, 3) := dk_20 0 204 (dk_at dksX7_read_0 15 rfl rfl)
theorem dX7_read_18 : decode cX7_read 18 = .ok (.invokestatic 53, 3) := dk_184 0 53 (dk_at dksX7_read_0 18 rfl rfl)
theorem dX7_read_21 : decode cX7_read 21 = .ok (.ifCond .eq 16, 3) := dk_153 0 16 (dk_at dksX7_read_0 21 rfl rfl)
theorem dX7_read_24 : decode cX7_read 24 = .ok (.iload 4, 2) := dk_21 4 (dk_at dksX7_read_1 0 rfl rfl)
theorem dX7_read_26 : decode cX7_read 26 = .ok (.i2l, 1) := dk_133 (dk_at dksX7_read_1 2 rfl rfl)
theorem dX7_read_27 : decode cX7_read 27 = .ok (.lconst 0, 1) := dk_9 (dk_at dksX7_read_1 3 rfl rfl)
theorem dX7_read_28 : decode cX7_read 28 = .ok (.ldc2_w 180, 3) := dk_20 0 180 (dk_at dksX7_read_1 4 rfl rfl)
theorem dX7_read_31 : decode cX7_read 31 = .ok (.invokestatic 53, 3) := dk_184 0 53 (dk_at dksX7_read_1 7 rfl rfl)
theorem dX7_read_34 : decode cX7_read 34 = .ok (.ifCond .ne 5, 3) := dk_154 0 5 (dk_at dksX7_read_1 10 rfl rfl)
theorem dX7_read_37 : decode cX7_read 37 = .ok (.iconst (-1), 1) := dk_2 (dk_at dksX7_read_1 13 rfl rfl)
theorem dX7_read_38 : decode cX7_read 38 = .ok (.ireturn, 1) := dk_172 (dk_at dksX7_read_1 14 rfl rfl)
theorem dX7_read_39 : decode cX7_read 39 = .ok (.aload_n 0, 1) := dk_42 (dk_at dksX7_read_1 15 rfl rfl)
theorem dX7_read_40 : decode cX7_read 40 = .ok (.iconst 0, 1) := dk_3 (dk_at dksX7_read_1 16 rfl rfl)
theorem dX7_read_41 : decode cX7_read 41 = .ok (.bipush 126, 2) := dk_16 126 (dk_at dksX7_read_1 17 rfl rfl)
theorem dX7_read_43 : decode cX7_read 43 = .ok (.invokevirtual 195, 3) := dk_182 0 195 (dk_at dksX7_read_1 19 rfl rfl)
theorem dX7_read_46 : decode cX7_read 46 = .ok (.iconst 0, 1) := dk_3 (dk_at dksX7_read_1 22 rfl rfl)
theorem dX7_read_47 : decode cX7_read 47 = .ok (.istore 5, 2) := dk_54 5 (dk_at dksX7_read_2 0 rfl rfl)
theorem dX7_read_49 : decode cX7_read 49 = .ok (.iconst 0, 1) := dk_3 (dk_at dksX7_read_2 2 rfl rfl)
theorem dX7_read_50 : decode cX7_read 50 = .ok (.istore 6, 2) := dk_54 6 (dk_at dksX7_read_2 3 rfl rfl)
theorem dX7_read_52 : decode cX7_read 52 = .ok (.iconst 0, 1) := dk_3 (dk_at dksX7_read_2 5 rfl rfl)
theorem dX7_read_53 : decode cX7_read 53 = .ok (.istore 7, 2) := dk_54 7 (dk_at dksX7_read_2 6 rfl rfl)
theorem dX7_read_55 : decode cX7_read 55 = .ok (.iload 7, 2) := dk_21 7 (dk_at dksX7_read_2 8 rfl rfl)
theorem dX7_read_57 : decode cX7_read 57 = .ok (.iconst 2, 1) := dk_5 (dk_at dksX7_read_2 10 rfl rfl)
theorem dX7_read_58 : decode cX7_read 58 = .ok (.iload 4, 2) := dk_21 4 (dk_at dksX7_read_2 11 rfl rfl)
theorem dX7_read_60 : decode cX7_read 60 = .ok (.imul, 1) := dk_104 (dk_at dksX7_read_2 13 rfl rfl)
theorem dX7_read_61 : decode cX7_read 61 = .ok (.if_icmp .ge 135, 3) := dk_162 0 135 (dk_at dksX7_read_2 14 rfl rfl)
theorem dX7_read_64 : decode cX7_read 64 = .ok (.iload 5, 2) := dk_21 5 (dk_at dksX7_read_2 17 rfl rfl)
theorem dX7_read_66 : decode cX7_read 66 = .ok (.ifCond .ne 130, 3) := dk_154 0 130 (dk_at dksX7_read_2 19 rfl rfl)
theorem dX7_read_69 : decode cX7_read 69 = .ok (.aload_n 0, 1) := dk_42 (dk_at dksX7_read_2 22 rfl rfl)
theorem dX7_read_70 : decode cX7_read 70 = .ok (.getfield 42, 3) := dk_180 0 42 (dk_at dksX7_read_3 0 rfl rfl)
theorem dX7_read_73 : decode cX7_read 73 = .ok (.iload_n 1, 1) := dk_27 (dk_at dksX7_read_3 3 rfl rfl)
theorem dX7_read_74 : decode cX7_read 74 = .ok (.iaload, 1) := dk_46 (dk_at dksX7_read_3 4 rfl rfl)
theorem dX7_read_75 : decode cX7_read 75 = .ok (.bipush (-4), 2) := dk_16 252 (dk_at dksX7_read_3 5 rfl rfl)
theorem dX7_read_77 : decode cX7_read 77 = .ok (.if_icmp .ne 7, 3) := dk_160 0 7 (dk_at dksX7_read_3 7 rfl rfl)
theorem dX7_read_80 : decode cX7_read 80 = .ok (.iconst 1, 1) := dk_4 (dk_at dksX7_read_3 10 rfl rfl)
theorem dX7_read_81 : decode cX7_read 81 = .ok (.goto 44, 3) := dk_167 0 44 (dk_at dksX7_read_3 11 rfl rfl)
theorem dX7_read_84 : decode cX7_read 84 = .ok (.aload_n 0, 1) := dk_42 (dk_at dksX7_read_3 14 rfl rfl)
theorem dX7_read_85 : decode cX7_read 85 = .ok (.getfield 42, 3) := dk_180 0 42 (dk_at dksX7_read_3 15 rfl rfl)
theorem dX7_read_88 : decode cX7_read 88 = .ok (.iload_n 1, 1) := dk_27 (dk_at dksX7_read_3 18 rfl rfl)
theorem dX7_read_89 : decode cX7_read 89 = .ok (.iaload, 1) := dk_46 (dk_at dksX7_read_3 19 rfl rfl)
theorem dX7_read_90 : decode cX7_read 90 = .ok (.iload_n 2, 1) := dk_28 (dk_at dksX7_read_3 20 rfl rfl)
theorem dX7_read_91 : decode cX7_read 91 = .ok (.if_icmp .eq 7, 3) := dk_159 0 7 (dk_at dksX7_read_3 21 rfl rfl)
theorem dX7_read_94 : decode cX7_read 94 = .ok (.iconst 3, 1) := dk_6 (dk_at dksX7_read_4 0 rfl rfl)
theorem dX7_read_95 : decode cX7_read 95 = .ok (.goto 30, 3) := dk_167 0 30 (dk_at dksX7_read_4 1 rfl rfl)
theorem dX7_read_98 : decode cX7_read 98 = .ok (.iload_n 3, 1) := dk_29 (dk_at dksX7_read_4 4 rfl rfl)
theorem dX7_read_99 : decode cX7_read 99 = .ok (.i2l, 1) := dk_133 (dk_at dksX7_read_4 5 rfl rfl)
theorem dX7_read_100 : decode cX7_read 100 = .ok (.iload 7, 2) := dk_21 7 (dk_at dksX7_read_4 6 rfl rfl)
theorem dX7_read_102 : decode cX7_read 102 = .ok (.i2l, 1) := dk_133 (dk_at dksX7_read_4 8 rfl rfl)
theorem dX7_read_103 : decode cX7_read 103 = .ok (.ladd, 1) := dk_97 (dk_at dksX7_read_4 9 rfl rfl)
theorem dX7_read_104 : decode cX7_read 104 = .ok (.lconst 0, 1) := dk_9 (dk_at dksX7_read_4 10 rfl rfl)
theorem dX7_read_105 : decode cX7_read 105 = .ok (.aload_n 0, 1) := dk_42 (dk_at dksX7_read_4 11 rfl rfl)
theorem dX7_read_106 : decode cX7_read 106 = .ok (.getfield 45, 3) := dk_180 0 45 (dk_at dksX7_read_4 12 rfl rfl)
theorem dX7_read_109 : decode cX7_read 109 = .ok (.iload_n 1, 1) := dk_27 (dk_at dksX7_read_4 15 rfl rfl)
theorem dX7_read_110 : decode cX7_read 110 = .ok (.iaload, 1) := dk_46 (dk_at dksX7_read_4 16 rfl rfl)
theorem dX7_read_111 : decode cX7_read 111 = .ok (.iconst 1, 1) := dk_4 (dk_at dksX7_read_4 17 rfl rfl)
theorem dX7_read_112 : decode cX7_read 112 = .ok (.isub, 1) := dk_100 (dk_at dksX7_read_4 18 rfl rfl)
theorem dX7_read_113 : decode cX7_read 113 = .ok (.i2l, 1) := dk_133 (dk_at dksX7_read_4 19 rfl rfl)
theorem dX7_read_114 : decode cX7_read 114 = .ok (.invokestatic 53, 3) := dk_184 0 53 (dk_at dksX7_read_4 20 rfl rfl)
theorem dX7_read_117 : decode cX7_read 117 = .ok (.ifCond .ne 7, 3) := dk_154 0 7 (dk_at dksX7_read_5 0 rfl rfl)
theorem dX7_read_120 : decode cX7_read 120 = .ok (.iconst 2, 1) := dk_5 (dk_at dksX7_read_5 3 rfl rfl)
theorem dX7_read_121 : decode cX7_read 121 = .ok (.goto 4, 3) := dk_167 0 4 (dk_at dksX7_read_5 4 rfl rfl)
theorem dX7_read_124 : decode cX7_read 124 = .ok (.iconst 0, 1) := dk_3 (dk_at dksX7_read_5 7 rfl rfl)
theorem dX7_read_125 : decode cX7_read 125 = .ok (.istore 5, 2) := dk_54 5 (dk_at dksX7_read_5 8 rfl rfl)
theorem dX7_read_127 : decode cX7_read 127 = .ok (.iload 5, 2) := dk_21 5 (dk_at dksX7_read_5 10 rfl rfl)
theorem dX7_read_129 : decode cX7_read 129 = .ok (.ifCond .ne 61, 3) := dk_154 0 61 (dk_at dksX7_read_5 12 rfl rfl)
theorem dX7_read_132 : decode cX7_read 132 = .ok (.iload 7, 2) := dk_21 7 (dk_at dksX7_read_5 15 rfl rfl)
theorem dX7_read_134 : decode cX7_read 134 = .ok (.iconst 2, 1) := dk_5 (dk_at dksX7_read_5 17 rfl rfl)
theorem dX7_read_135 : decode cX7_read 135 = .ok (.irem, 1) := dk_112 (dk_at dksX7_read_5 18 rfl rfl)
theorem dX7_read_136 : decode cX7_read 136 = .ok (.iconst 1, 1) := dk_4 (dk_at dksX7_read_5 19 rfl rfl)
theorem dX7_read_137 : decode cX7_read 137 = .ok (.if_icmp .ne 53, 3) := dk_160 0 53 (dk_at dksX7_read_5 20 rfl rfl)
theorem dX7_read_140 : decode cX7_read 140 = .ok (.bipush 40, 2) := dk_16 40 (dk_at dksX7_read_6 0 rfl rfl)
theorem dX7_read_142 : decode cX7_read 142 = .ok (.iload_n 1, 1) := dk_27 (dk_at dksX7_read_6 2 rfl rfl)
theorem dX7_read_143 : decode cX7_read 143 = .ok (.imul, 1) := dk_104 (dk_at dksX7_read_6 3 rfl rfl)
theorem dX7_read_144 : decode cX7_read 144 = .ok (.iload_n 3, 1) := dk_29 (dk_at dksX7_read_6 4 rfl rfl)
theorem dX7_read_145 : decode cX7_read 145 = .ok (.iadd, 1) := dk_96 (dk_at dksX7_read_6 5 rfl rfl)
theorem dX7_read_146 : decode cX7_read 146 = .ok (.iload 7, 2) := dk_21 7 (dk_at dksX7_read_6 6 rfl rfl)
theorem dX7_read_148 : decode cX7_read 148 = .ok (.iadd, 1) := dk_96 (dk_at dksX7_read_6 8 rfl rfl)
theorem dX7_read_149 : decode cX7_read 149 = .ok (.istore 8, 2) := dk_54 8 (dk_at dksX7_read_6 9 rfl rfl)
theorem dX7_read_151 : decode cX7_read 151 = .ok (.aload_n 0, 1) := dk_42 (dk_at dksX7_read_6 11 rfl rfl)
theorem dX7_read_152 : decode cX7_read 152 = .ok (.aload_n 0, 1) := dk_42 (dk_at dksX7_read_6 12 rfl rfl)
theorem dX7_read_153 : decode cX7_read 153 = .ok (.getfield 48, 3) := dk_180 0 48 (dk_at dksX7_read_6 13 rfl rfl)
theorem dX7_read_156 : decode cX7_read 156 = .ok (.iload 8, 2) := dk_21 8 (dk_at dksX7_read_6 16 rfl rfl)
theorem dX7_read_158 : decode cX7_read 158 = .ok (.iconst 1, 1) := dk_4 (dk_at dksX7_read_6 18 rfl rfl)
theorem dX7_read_159 : decode cX7_read 159 = .ok (.isub, 1) := dk_100 (dk_at dksX7_read_6 19 rfl rfl)
theorem dX7_read_160 : decode cX7_read 160 = .ok (.iaload, 1) := dk_46 (dk_at dksX7_read_6 20 rfl rfl)
theorem dX7_read_161 : decode cX7_read 161 = .ok (.aload_n 0, 1) := dk_42 (dk_at dksX7_read_6 21 rfl rfl)
theorem dX7_read_162 : decode cX7_read 162 = .ok (.getfield 48, 3) := dk_180 0 48 (dk_at dksX7_read_7 0 rfl rfl)
theorem dX7_read_165 : decode cX7_read 165 = .ok (.iload 8, 2) := dk_21 8 (dk_at dksX7_read_7 3 rfl rfl)
theorem dX7_read_167 : decode cX7_read 167 = .ok (.iaload, 1) := dk_46 (dk_at dksX7_read_7 5 rfl rfl)
theorem dX7_read_168 : decode cX7_read 168 = .ok (.invokevirtual 186, 3) := dk_182 0 186 (dk_at dksX7_read_7 6 rfl rfl)
theorem dX7_read_171 : decode cX7_read 171 = .ok (.ifCond .ge 16, 3) := dk_156 0 16 (dk_at dksX7_read_7 9 rfl rfl)
theorem dX7_read_174 : decode cX7_read 174 = .ok (.aload_n 0, 1) := dk_42 (dk_at dksX7_read_7 12 rfl rfl)
theorem dX7_read_175 : decode cX7_read 175 = .ok (.bipush 126, 2) := dk_16 126 (dk_at dksX7_read_7 13 rfl rfl)
theorem dX7_read_177 : decode cX7_read 177 = .ok (.iconst 0, 1) := dk_3 (dk_at dksX7_read_7 15 rfl rfl)
theorem dX7_read_178 : decode cX7_read 178 = .ok (.invokevirtual 195, 3) := dk_182 0 195 (dk_at dksX7_read_7 16 rfl rfl)
theorem dX7_read_181 : decode cX7_read 181 = .ok (.bipush (-20), 2) := dk_16 236 (dk_at dksX7_read_7 19 rfl rfl)
theorem dX7_read_183 : decode cX7_read 183 = .ok (.iload 6, 2) := dk_21 6 (dk_at dksX7_read_7 21 rfl rfl)
theorem dX7_read_185 : decode cX7_read 185 = .ok (.isub, 1) := dk_100 (dk_at dksX7_read_7 23 rfl rfl)
theorem dX7_read_186 : decode cX7_read 186 = .ok (.ireturn, 1) := dk_172 (dk_at dksX7_read_8 0 rfl rfl)
theorem dX7_read_187 : decode cX7_read 187 = .ok (.iinc 6 1, 3) := dk_132 6 1 (dk_at dksX7_read_8 1 rfl rfl)
theorem dX7_read_190 : decode cX7_read 190 = .ok (.iinc 7 1, 3) := dk_132 7 1 (dk_at dksX7_read_8 4 rfl rfl)
theorem dX7_read_193 : decode cX7_read 193 = .ok (.goto (-138), 3) := dk_167 255 118 (dk_at dksX7_read_8 7 rfl rfl)
theorem dX7_read_196 : decode cX7_read 196 = .ok (.aload_n 0, 1) := dk_42 (dk_at dksX7_read_8 10 rfl rfl)
theorem dX7_read_197 : decode cX7_read 197 = .ok (.iload 5, 2) := dk_21 5 (dk_at dksX7_read_8 11 rfl rfl)
theorem dX7_read_199 : decode cX7_read 199 = .ok (.putfield 236, 3) := dk_181 0 236 (dk_at dksX7_read_8 13 rfl rfl)
theorem dX7_read_202 : decode cX7_read 202 = .ok (.iload 6, 2) := dk_21 6 (dk_at dksX7_read_8 16 rfl rfl)
theorem dX7_read_204 : decode cX7_read 204 = .ok (.ireturn, 1) := dk_172 (dk_at dksX7_read_8 18 rfl rfl)
abbrev cX7_torn : ByteArray := prog_11_method_70_code
def yX7_torn : MethodName := ⟨RX7, "torn", "()I"⟩
theorem dX7_torn_0 : decode cX7_torn 0 = .ok (.aload_n 0, 1) := by decide +kernel
theorem dX7_torn_1 : decode cX7_torn 1 = .ok (.getfield 236, 3) := by decide +kernel
theorem dX7_torn_4 : decode cX7_torn 4 = .ok (.ireturn, 1) := by decide +kernel
abbrev cX7_count : ByteArray := prog_11_method_71_code
def yX7_count : MethodName := ⟨RX7, "count", "(I)I"⟩
def dkwX7_count_5 : List UInt8 := [160, 0, 8, 16, 252, 167, 0, 9, 42, 180, 0, 45, 3, 46, 172, 28, 172, 29, 172, 2, 172]
abbrev dktX7_count_5 : List UInt8 := dkwX7_count_5 ++ []
def dkwX7_count_4 : List UInt8 := [51, 153, 0, 7, 4, 167, 0, 4, 3, 96, 172, 42, 180, 0, 57, 172, 42, 180, 0, 42, 3, 46, 16, 252]
abbrev dktX7_count_4 : List UInt8 := dkwX7_count_4 ++ dktX7_count_5
def dkwX7_count_3 : List UInt8 := [42, 180, 0, 128, 172, 42, 180, 0, 38, 3, 51, 153, 0, 7, 4, 167, 0, 4, 3, 42, 180, 0, 38, 4]
abbrev dktX7_count_3 : List UInt8 := dkwX7_count_3 ++ dktX7_count_4
def dkwX7_count_2 : List UInt8 := [170, 0, 0, 0, 0, 0, 0, 107, 0, 0, 0, 0, 0, 0, 0, 5, 0, 0, 0, 40, 0, 0, 0, 45, 0, 0, 0, 75, 0, 0, 0, 80, 0, 0, 0, 103, 0, 0, 0, 105]
abbrev dktX7_count_2 : List UInt8 := dkwX7_count_2 ++ dktX7_count_3
def dkwX7_count_1 : List UInt8 := [96, 46, 96, 61, 29, 42, 180, 0, 7, 16, 10, 21, 4, 96, 46, 96, 62, 132, 4, 1, 167, 255, 219, 27]
abbrev dktX7_count_1 : List UInt8 := dkwX7_count_1 ++ dktX7_count_2
def dkwX7_count_0 : List UInt8 := [3, 61, 3, 62, 3, 54, 4, 21, 4, 42, 180, 0, 125, 162, 0, 34, 28, 42, 180, 0, 7, 8, 21, 4]
abbrev dktX7_count_0 : List UInt8 := dkwX7_count_0 ++ dktX7_count_1
theorem dksX7_count_0 : cX7_count.data.toList.drop 0 = dktX7_count_0 := by decide +kernel
theorem dksX7_count_1 : cX7_count.data.toList.drop 24 = dktX7_count_1 := dk_seg dksX7_count_0 24 rfl rfl
theorem dksX7_count_2 : cX7_count.data.toList.drop 48 = dktX7_count_2 := dk_seg dksX7_count_1 24 rfl rfl
theorem dksX7_count_3 : cX7_count.data.toList.drop 88 = dktX7_count_3 := dk_seg dksX7_count_2 40 rfl rfl
theorem dksX7_count_4 : cX7_count.data.toList.drop 112 = dktX7_count_4 := dk_seg dksX7_count_3 24 rfl rfl
theorem dksX7_count_5 : cX7_count.data.toList.drop 136 = dktX7_count_5 := dk_seg dksX7_count_4 24 rfl rfl
theorem dX7_count_0 : decode cX7_count 0 = .ok (.iconst 0, 1) := dk_3 (dk_at dksX7_count_0 0 rfl rfl)
theorem dX7_count_1 : decode cX7_count 1 = .ok (.istore_n 2, 1) := dk_61 (dk_at dksX7_count_0 1 rfl rfl)
theorem dX7_count_2 : decode cX7_count 2 = .ok (.iconst 0, 1) := dk_3 (dk_at dksX7_count_0 2 rfl rfl)
theorem dX7_count_3 : decode cX7_count 3 = .ok (.istore_n 3, 1) := dk_62 (dk_at dksX7_count_0 3 rfl rfl)
theorem dX7_count_4 : decode cX7_count 4 = .ok (.iconst 0, 1) := dk_3 (dk_at dksX7_count_0 4 rfl rfl)
theorem dX7_count_5 : decode cX7_count 5 = .ok (.istore 4, 2) := dk_54 4 (dk_at dksX7_count_0 5 rfl rfl)
theorem dX7_count_7 : decode cX7_count 7 = .ok (.iload 4, 2) := dk_21 4 (dk_at dksX7_count_0 7 rfl rfl)
theorem dX7_count_9 : decode cX7_count 9 = .ok (.aload_n 0, 1) := dk_42 (dk_at dksX7_count_0 9 rfl rfl)
theorem dX7_count_10 : decode cX7_count 10 = .ok (.getfield 125, 3) := dk_180 0 125 (dk_at dksX7_count_0 10 rfl rfl)
theorem dX7_count_13 : decode cX7_count 13 = .ok (.if_icmp .ge 34, 3) := dk_162 0 34 (dk_at dksX7_count_0 13 rfl rfl)
theorem dX7_count_16 : decode cX7_count 16 = .ok (.iload_n 2, 1) := dk_28 (dk_at dksX7_count_0 16 rfl rfl)
theorem dX7_count_17 : decode cX7_count 17 = .ok (.aload_n 0, 1) := dk_42 (dk_at dksX7_count_0 17 rfl rfl)
theorem dX7_count_18 : decode cX7_count 18 = .ok (.getfield 7, 3) := dk_180 0 7 (dk_at dksX7_count_0 18 rfl rfl)
theorem dX7_count_21 : decode cX7_count 21 = .ok (.iconst 5, 1) := dk_8 (dk_at dksX7_count_0 21 rfl rfl)
theorem dX7_count_22 : decode cX7_count 22 = .ok (.iload 4, 2) := dk_21 4 (dk_at dksX7_count_0 22 rfl rfl)
theorem dX7_count_24 : decode cX7_count 24 = .ok (.iadd, 1) := dk_96 (dk_at dksX7_count_1 0 rfl rfl)
theorem dX7_count_25 : decode cX7_count 25 = .ok (.iaload, 1) := dk_46 (dk_at dksX7_count_1 1 rfl rfl)
theorem dX7_count_26 : decode cX7_count 26 = .ok (.iadd, 1) := dk_96 (dk_at dksX7_count_1 2 rfl rfl)
theorem dX7_count_27 : decode cX7_count 27 = .ok (.istore_n 2, 1) := dk_61 (dk_at dksX7_count_1 3 rfl rfl)
theorem dX7_count_28 : decode cX7_count 28 = .ok (.iload_n 3, 1) := dk_29 (dk_at dksX7_count_1 4 rfl rfl)
theorem dX7_count_29 : decode cX7_count 29 = .ok (.aload_n 0, 1) := dk_42 (dk_at dksX7_count_1 5 rfl rfl)
theorem dX7_count_30 : decode cX7_count 30 = .ok (.getfield 7, 3) := dk_180 0 7 (dk_at dksX7_count_1 6 rfl rfl)
theorem dX7_count_33 : decode cX7_count 33 = .ok (.bipush 10, 2) := dk_16 10 (dk_at dksX7_count_1 9 rfl rfl)
theorem dX7_count_35 : decode cX7_count 35 = .ok (.iload 4, 2) := dk_21 4 (dk_at dksX7_count_1 11 rfl rfl)
theorem dX7_count_37 : decode cX7_count 37 = .ok (.iadd, 1) := dk_96 (dk_at dksX7_count_1 13 rfl rfl)
theorem dX7_count_38 : decode cX7_count 38 = .ok (.iaload, 1) := dk_46 (dk_at dksX7_count_1 14 rfl rfl)
theorem dX7_count_39 : decode cX7_count 39 = .ok (.iadd, 1) := dk_96 (dk_at dksX7_count_1 15 rfl rfl)
theorem dX7_count_40 : decode cX7_count 40 = .ok (.istore_n 3, 1) := dk_62 (dk_at dksX7_count_1 16 rfl rfl)
theorem dX7_count_41 : decode cX7_count 41 = .ok (.iinc 4 1, 3) := dk_132 4 1 (dk_at dksX7_count_1 17 rfl rfl)
theorem dX7_count_44 : decode cX7_count 44 = .ok (.goto (-37), 3) := dk_167 255 219 (dk_at dksX7_count_1 20 rfl rfl)
theorem dX7_count_47 : decode cX7_count 47 = .ok (.iload_n 1, 1) := dk_27 (dk_at dksX7_count_1 23 rfl rfl)
theorem dX7_count_48 : decode cX7_count 48 = .ok (.tableswitch 107 0 5 #[40, 45, 75, 80, 103, 105], 40) := by decide +kernel
theorem dX7_count_88 : decode cX7_count 88 = .ok (.aload_n 0, 1) := dk_42 (dk_at dksX7_count_3 0 rfl rfl)
theorem dX7_count_89 : decode cX7_count 89 = .ok (.getfield 128, 3) := dk_180 0 128 (dk_at dksX7_count_3 1 rfl rfl)
theorem dX7_count_92 : decode cX7_count 92 = .ok (.ireturn, 1) := dk_172 (dk_at dksX7_count_3 4 rfl rfl)
theorem dX7_count_93 : decode cX7_count 93 = .ok (.aload_n 0, 1) := dk_42 (dk_at dksX7_count_3 5 rfl rfl)
theorem dX7_count_94 : decode cX7_count 94 = .ok (.getfield 38, 3) := dk_180 0 38 (dk_at dksX7_count_3 6 rfl rfl)
theorem dX7_count_97 : decode cX7_count 97 = .ok (.iconst 0, 1) := dk_3 (dk_at dksX7_count_3 9 rfl rfl)
theorem dX7_count_98 : decode cX7_count 98 = .ok (.baload, 1) := dk_51 (dk_at dksX7_count_3 10 rfl rfl)
theorem dX7_count_99 : decode cX7_count 99 = .ok (.ifCond .eq 7, 3) := dk_153 0 7 (dk_at dksX7_count_3 11 rfl rfl)
theorem dX7_count_102 : decode cX7_count 102 = .ok (.iconst 1, 1) := dk_4 (dk_at dksX7_count_3 14 rfl rfl)
theorem dX7_count_103 : decode cX7_count 103 = .ok (.goto 4, 3) := dk_167 0 4 (dk_at dksX7_count_3 15 rfl rfl)
theorem dX7_count_106 : decode cX7_count 106 = .ok (.iconst 0, 1) := dk_3 (dk_at dksX7_count_3 18 rfl rfl)
theorem dX7_count_107 : decode cX7_count 107 = .ok (.aload_n 0, 1) := dk_42 (dk_at dksX7_count_3 19 rfl rfl)
theorem dX7_count_108 : decode cX7_count 108 = .ok (.getfield 38, 3) := dk_180 0 38 (dk_at dksX7_count_3 20 rfl rfl)
theorem dX7_count_111 : decode cX7_count 111 = .ok (.iconst 1, 1) := dk_4 (dk_at dksX7_count_3 23 rfl rfl)
theorem dX7_count_112 : decode cX7_count 112 = .ok (.baload, 1) := dk_51 (dk_at dksX7_count_4 0 rfl rfl)
theorem dX7_count_113 : decode cX7_count 113 = .ok (.ifCond .eq 7, 3) := dk_153 0 7 (dk_at dksX7_count_4 1 rfl rfl)
theorem dX7_count_116 : decode cX7_count 116 = .ok (.iconst 1, 1) := dk_4 (dk_at dksX7_count_4 4 rfl rfl)
theorem dX7_count_117 : decode cX7_count 117 = .ok (.goto 4, 3) := dk_167 0 4 (dk_at dksX7_count_4 5 rfl rfl)
theorem dX7_count_120 : decode cX7_count 120 = .ok (.iconst 0, 1) := dk_3 (dk_at dksX7_count_4 8 rfl rfl)
theorem dX7_count_121 : decode cX7_count 121 = .ok (.iadd, 1) := dk_96 (dk_at dksX7_count_4 9 rfl rfl)
theorem dX7_count_122 : decode cX7_count 122 = .ok (.ireturn, 1) := dk_172 (dk_at dksX7_count_4 10 rfl rfl)
theorem dX7_count_123 : decode cX7_count 123 = .ok (.aload_n 0, 1) := dk_42 (dk_at dksX7_count_4 11 rfl rfl)
theorem dX7_count_124 : decode cX7_count 124 = .ok (.getfield 57, 3) := dk_180 0 57 (dk_at dksX7_count_4 12 rfl rfl)
theorem dX7_count_127 : decode cX7_count 127 = .ok (.ireturn, 1) := dk_172 (dk_at dksX7_count_4 15 rfl rfl)
theorem dX7_count_128 : decode cX7_count 128 = .ok (.aload_n 0, 1) := dk_42 (dk_at dksX7_count_4 16 rfl rfl)
theorem dX7_count_129 : decode cX7_count 129 = .ok (.getfield 42, 3) := dk_180 0 42 (dk_at dksX7_count_4 17 rfl rfl)
theorem dX7_count_132 : decode cX7_count 132 = .ok (.iconst 0, 1) := dk_3 (dk_at dksX7_count_4 20 rfl rfl)
theorem dX7_count_133 : decode cX7_count 133 = .ok (.iaload, 1) := dk_46 (dk_at dksX7_count_4 21 rfl rfl)
theorem dX7_count_134 : decode cX7_count 134 = .ok (.bipush (-4), 2) := dk_16 252 (dk_at dksX7_count_4 22 rfl rfl)
theorem dX7_count_136 : decode cX7_count 136 = .ok (.if_icmp .ne 8, 3) := dk_160 0 8 (dk_at dksX7_count_5 0 rfl rfl)
theorem dX7_count_139 : decode cX7_count 139 = .ok (.bipush (-4), 2) := dk_16 252 (dk_at dksX7_count_5 3 rfl rfl)
theorem dX7_count_141 : decode cX7_count 141 = .ok (.goto 9, 3) := dk_167 0 9 (dk_at dksX7_count_5 5 rfl rfl)
theorem dX7_count_144 : decode cX7_count 144 = .ok (.aload_n 0, 1) := dk_42 (dk_at dksX7_count_5 8 rfl rfl)
theorem dX7_count_145 : decode cX7_count 145 = .ok (.getfield 45, 3) := dk_180 0 45 (dk_at dksX7_count_5 9 rfl rfl)
theorem dX7_count_148 : decode cX7_count 148 = .ok (.iconst 0, 1) := dk_3 (dk_at dksX7_count_5 12 rfl rfl)
theorem dX7_count_149 : decode cX7_count 149 = .ok (.iaload, 1) := dk_46 (dk_at dksX7_count_5 13 rfl rfl)
theorem dX7_count_150 : decode cX7_count 150 = .ok (.ireturn, 1) := dk_172 (dk_at dksX7_count_5 14 rfl rfl)
theorem dX7_count_151 : decode cX7_count 151 = .ok (.iload_n 2, 1) := dk_28 (dk_at dksX7_count_5 15 rfl rfl)
theorem dX7_count_152 : decode cX7_count 152 = .ok (.ireturn, 1) := dk_172 (dk_at dksX7_count_5 16 rfl rfl)
theorem dX7_count_153 : decode cX7_count 153 = .ok (.iload_n 3, 1) := dk_29 (dk_at dksX7_count_5 17 rfl rfl)
theorem dX7_count_154 : decode cX7_count 154 = .ok (.ireturn, 1) := dk_172 (dk_at dksX7_count_5 18 rfl rfl)
theorem dX7_count_155 : decode cX7_count 155 = .ok (.iconst (-1), 1) := dk_2 (dk_at dksX7_count_5 19 rfl rfl)
theorem dX7_count_156 : decode cX7_count 156 = .ok (.ireturn, 1) := dk_172 (dk_at dksX7_count_5 20 rfl rfl)
theorem q71 : (Jvm.Cond.initialized "LoseLeagueModel") ∈ lw_all := lw_g (lw_at lw_m1 8 rfl) rfl
theorem q934 : (Jvm.Cond.instantiable "LoseLeagueModel" (29 : Nat)) ∈ lw_all := lw_g (lw_at lw_m4 151 rfl) rfl
theorem q936 : (Jvm.Cond.instanceMethod ({ cls := "LoseLeagueModel", name := "<init>", desc := "()V" } : Jvm.MethodName)) ∈ lw_all := lw_g (lw_at lw_m4 153 rfl) rfl
theorem q937 : (Jvm.Cond.code ({ cls := "LoseLeagueModel", name := "<init>", desc := "()V" } : Jvm.MethodName) prog_11_method_1_code (1 : Nat) (Option.none : Option Jvm.ClassFile.FieldType)) ∈ lw_all := lw_g (lw_at lw_m4 154 rfl) rfl
theorem q938 : (Jvm.Cond.methodLink "LoseLeagueModel" (1 : Nat) ({ cls := "java/lang/Object", name := "<init>", desc := "()V" } : Jvm.MethodName)) ∈ lw_all := lw_g (lw_at lw_m4 155 rfl) rfl
theorem q939 : (Jvm.Cond.fieldLink "LoseLeagueModel" (7 : Nat) "LoseLeagueModel" "state" "[I") ∈ lw_all := lw_g (lw_at lw_m4 156 rfl) rfl
theorem q940 : (Jvm.Cond.fieldLink "LoseLeagueModel" (125 : Nat) "LoseLeagueModel" "townMany" "I") ∈ lw_all := lw_g (lw_at lw_m4 157 rfl) rfl
theorem q941 : (Jvm.Cond.fieldLink "LoseLeagueModel" (13 : Nat) "LoseLeagueModel" "readPage" "[I") ∈ lw_all := lw_g (lw_at lw_m4 158 rfl) rfl
theorem q942 : (Jvm.Cond.fieldLink "LoseLeagueModel" (104 : Nat) "LoseLeagueModel" "readTowns" "I") ∈ lw_all := lw_g (lw_at lw_m4 159 rfl) rfl
theorem q943 : (Jvm.Cond.fieldLink "LoseLeagueModel" (101 : Nat) "LoseLeagueModel" "topTown" "I") ∈ lw_all := lw_g (lw_at lw_m4 160 rfl) rfl
theorem q944 : (Jvm.Cond.fieldLink "LoseLeagueModel" (16 : Nat) "LoseLeagueModel" "tape" "[I") ∈ lw_all := lw_g (lw_at lw_m4 161 rfl) rfl
theorem q945 : (Jvm.Cond.fieldLink "LoseLeagueModel" (57 : Nat) "LoseLeagueModel" "taped" "I") ∈ lw_all := lw_g (lw_at lw_m4 162 rfl) rfl
theorem q946 : (Jvm.Cond.fieldLink "LoseLeagueModel" (122 : Nat) "LoseLeagueModel" "fault" "I") ∈ lw_all := lw_g (lw_at lw_m4 163 rfl) rfl
theorem q947 : (Jvm.Cond.fieldLink "LoseLeagueModel" (60 : Nat) "LoseLeagueModel" "broken" "I") ∈ lw_all := lw_g (lw_at lw_m4 164 rfl) rfl
theorem q948 : (Jvm.Cond.fieldLink "LoseLeagueModel" (66 : Nat) "LoseLeagueModel" "brokenAt" "I") ∈ lw_all := lw_g (lw_at lw_m4 165 rfl) rfl
theorem q949 : (Jvm.Cond.fieldLink "LoseLeagueModel" (72 : Nat) "LoseLeagueModel" "spot" "I") ∈ lw_all := lw_g (lw_at lw_m4 166 rfl) rfl
theorem q950 : (Jvm.Cond.fieldLink "LoseLeagueModel" (63 : Nat) "LoseLeagueModel" "here" "I") ∈ lw_all := lw_g (lw_at lw_m4 167 rfl) rfl
theorem q951 : (Jvm.Cond.fieldLink "LoseLeagueModel" (69 : Nat) "LoseLeagueModel" "token" "I") ∈ lw_all := lw_g (lw_at lw_m4 168 rfl) rfl
theorem q952 : (Jvm.Cond.fieldLink "LoseLeagueModel" (79 : Nat) "LoseLeagueModel" "value" "I") ∈ lw_all := lw_g (lw_at lw_m4 169 rfl) rfl
theorem q953 : (Jvm.Cond.fieldLink "LoseLeagueModel" (19 : Nat) "LoseLeagueModel" "ends" "[I") ∈ lw_all := lw_g (lw_at lw_m4 170 rfl) rfl
theorem q954 : (Jvm.Cond.fieldLink "LoseLeagueModel" (22 : Nat) "LoseLeagueModel" "letters" "[I") ∈ lw_all := lw_g (lw_at lw_m4 171 rfl) rfl
theorem q955 : (Jvm.Cond.fieldLink "LoseLeagueModel" (142 : Nat) "LoseLeagueModel" "loser" "I") ∈ lw_all := lw_g (lw_at lw_m4 172 rfl) rfl
theorem q956 : (Jvm.Cond.fieldLink "LoseLeagueModel" (148 : Nat) "LoseLeagueModel" "lost" "I") ∈ lw_all := lw_g (lw_at lw_m4 173 rfl) rfl
theorem q957 : (Jvm.Cond.fieldLink "LoseLeagueModel" (145 : Nat) "LoseLeagueModel" "draws" "I") ∈ lw_all := lw_g (lw_at lw_m4 174 rfl) rfl
theorem q958 : (Jvm.Cond.fieldLink "LoseLeagueModel" (25 : Nat) "LoseLeagueModel" "skipped" "I") ∈ lw_all := lw_g (lw_at lw_m4 175 rfl) rfl
theorem q959 : (Jvm.Cond.fieldLink "LoseLeagueModel" (29 : Nat) "LoseLeagueModel" "bestRow" "[I") ∈ lw_all := lw_g (lw_at lw_m4 176 rfl) rfl
theorem q960 : (Jvm.Cond.fieldLink "LoseLeagueModel" (32 : Nat) "LoseLeagueModel" "seen" "[I") ∈ lw_all := lw_g (lw_at lw_m4 177 rfl) rfl
theorem q961 : (Jvm.Cond.fieldLink "LoseLeagueModel" (128 : Nat) "LoseLeagueModel" "seenMany" "I") ∈ lw_all := lw_g (lw_at lw_m4 178 rfl) rfl
theorem q962 : (Jvm.Cond.fieldLink "LoseLeagueModel" (35 : Nat) "LoseLeagueModel" "loserBy" "[I") ∈ lw_all := lw_g (lw_at lw_m4 179 rfl) rfl
theorem q963 : (Jvm.Cond.fieldLink "LoseLeagueModel" (38 : Nat) "LoseLeagueModel" "isKept" "[Z") ∈ lw_all := lw_g (lw_at lw_m4 180 rfl) rfl
theorem q964 : (Jvm.Cond.fieldLink "LoseLeagueModel" (42 : Nat) "LoseLeagueModel" "lanes" "[I") ∈ lw_all := lw_g (lw_at lw_m4 181 rfl) rfl
theorem q965 : (Jvm.Cond.fieldLink "LoseLeagueModel" (45 : Nat) "LoseLeagueModel" "lengths" "[I") ∈ lw_all := lw_g (lw_at lw_m4 182 rfl) rfl
theorem q966 : (Jvm.Cond.fieldLink "LoseLeagueModel" (48 : Nat) "LoseLeagueModel" "cells" "[I") ∈ lw_all := lw_g (lw_at lw_m4 183 rfl) rfl
theorem q967 : (Jvm.Cond.fieldLink "LoseLeagueModel" (236 : Nat) "LoseLeagueModel" "torn" "I") ∈ lw_all := lw_g (lw_at lw_m4 184 rfl) rfl
theorem q968 : (Jvm.Cond.laysFinal "LoseLeagueModel" "LoseLeagueModel" "state" "[I") ∈ lw_all := lw_g (lw_at lw_m4 185 rfl) rfl
theorem q969 : (Jvm.Cond.soleField "LoseLeagueModel" "state") ∈ lw_all := lw_g (lw_at lw_m4 186 rfl) rfl
theorem q970 : (Jvm.Cond.lays "LoseLeagueModel" "LoseLeagueModel" "townMany" "I") ∈ lw_all := lw_g (lw_at lw_m4 187 rfl) rfl
theorem q971 : (Jvm.Cond.soleField "LoseLeagueModel" "townMany") ∈ lw_all := lw_g (lw_at lw_m4 188 rfl) rfl
theorem q972 : (Jvm.Cond.laysFinal "LoseLeagueModel" "LoseLeagueModel" "readPage" "[I") ∈ lw_all := lw_g (lw_at lw_m4 189 rfl) rfl
theorem q973 : (Jvm.Cond.soleField "LoseLeagueModel" "readPage") ∈ lw_all := lw_g (lw_at lw_m4 190 rfl) rfl
theorem q974 : (Jvm.Cond.lays "LoseLeagueModel" "LoseLeagueModel" "readTowns" "I") ∈ lw_all := lw_g (lw_at lw_m4 191 rfl) rfl
theorem q975 : (Jvm.Cond.soleField "LoseLeagueModel" "readTowns") ∈ lw_all := lw_g (lw_at lw_m4 192 rfl) rfl
theorem q976 : (Jvm.Cond.lays "LoseLeagueModel" "LoseLeagueModel" "topTown" "I") ∈ lw_all := lw_g (lw_at lw_m4 193 rfl) rfl
theorem q977 : (Jvm.Cond.soleField "LoseLeagueModel" "topTown") ∈ lw_all := lw_g (lw_at lw_m4 194 rfl) rfl
theorem q978 : (Jvm.Cond.laysFinal "LoseLeagueModel" "LoseLeagueModel" "tape" "[I") ∈ lw_all := lw_g (lw_at lw_m4 195 rfl) rfl
theorem q979 : (Jvm.Cond.soleField "LoseLeagueModel" "tape") ∈ lw_all := lw_g (lw_at lw_m4 196 rfl) rfl
theorem q980 : (Jvm.Cond.lays "LoseLeagueModel" "LoseLeagueModel" "taped" "I") ∈ lw_all := lw_g (lw_at lw_m4 197 rfl) rfl
theorem q981 : (Jvm.Cond.soleField "LoseLeagueModel" "taped") ∈ lw_all := lw_g (lw_at lw_m4 198 rfl) rfl
theorem q982 : (Jvm.Cond.lays "LoseLeagueModel" "LoseLeagueModel" "fault" "I") ∈ lw_all := lw_g (lw_at lw_m4 199 rfl) rfl
theorem q983 : (Jvm.Cond.soleField "LoseLeagueModel" "fault") ∈ lw_all := lw_g (lw_at lw_m4 200 rfl) rfl
theorem q984 : (Jvm.Cond.lays "LoseLeagueModel" "LoseLeagueModel" "broken" "I") ∈ lw_all := lw_g (lw_at lw_m4 201 rfl) rfl
theorem q985 : (Jvm.Cond.soleField "LoseLeagueModel" "broken") ∈ lw_all := lw_g (lw_at lw_m4 202 rfl) rfl
theorem q986 : (Jvm.Cond.lays "LoseLeagueModel" "LoseLeagueModel" "brokenAt" "I") ∈ lw_all := lw_g (lw_at lw_m4 203 rfl) rfl
theorem q987 : (Jvm.Cond.soleField "LoseLeagueModel" "brokenAt") ∈ lw_all := lw_g (lw_at lw_m4 204 rfl) rfl
theorem q988 : (Jvm.Cond.lays "LoseLeagueModel" "LoseLeagueModel" "spot" "I") ∈ lw_all := lw_g (lw_at lw_m4 205 rfl) rfl
theorem q989 : (Jvm.Cond.soleField "LoseLeagueModel" "spot") ∈ lw_all := lw_g (lw_at lw_m4 206 rfl) rfl
theorem q990 : (Jvm.Cond.lays "LoseLeagueModel" "LoseLeagueModel" "here" "I") ∈ lw_all := lw_g (lw_at lw_m4 207 rfl) rfl
theorem q991 : (Jvm.Cond.soleField "LoseLeagueModel" "here") ∈ lw_all := lw_g (lw_at lw_m4 208 rfl) rfl
theorem q992 : (Jvm.Cond.lays "LoseLeagueModel" "LoseLeagueModel" "token" "I") ∈ lw_all := lw_g (lw_at lw_m4 209 rfl) rfl
theorem q993 : (Jvm.Cond.soleField "LoseLeagueModel" "token") ∈ lw_all := lw_g (lw_at lw_m4 210 rfl) rfl
theorem q994 : (Jvm.Cond.lays "LoseLeagueModel" "LoseLeagueModel" "value" "I") ∈ lw_all := lw_g (lw_at lw_m4 211 rfl) rfl
theorem q995 : (Jvm.Cond.soleField "LoseLeagueModel" "value") ∈ lw_all := lw_g (lw_at lw_m4 212 rfl) rfl
theorem q996 : (Jvm.Cond.laysFinal "LoseLeagueModel" "LoseLeagueModel" "ends" "[I") ∈ lw_all := lw_g (lw_at lw_m4 213 rfl) rfl
theorem q997 : (Jvm.Cond.soleField "LoseLeagueModel" "ends") ∈ lw_all := lw_g (lw_at lw_m4 214 rfl) rfl
theorem q998 : (Jvm.Cond.laysFinal "LoseLeagueModel" "LoseLeagueModel" "letters" "[I") ∈ lw_all := lw_g (lw_at lw_m4 215 rfl) rfl
theorem q999 : (Jvm.Cond.soleField "LoseLeagueModel" "letters") ∈ lw_all := lw_g (lw_at lw_m4 216 rfl) rfl
theorem q1000 : (Jvm.Cond.lays "LoseLeagueModel" "LoseLeagueModel" "loser" "I") ∈ lw_all := lw_g (lw_at lw_m4 217 rfl) rfl
theorem q1001 : (Jvm.Cond.soleField "LoseLeagueModel" "loser") ∈ lw_all := lw_g (lw_at lw_m4 218 rfl) rfl
theorem q1002 : (Jvm.Cond.lays "LoseLeagueModel" "LoseLeagueModel" "lost" "I") ∈ lw_all := lw_g (lw_at lw_m4 219 rfl) rfl
theorem q1003 : (Jvm.Cond.soleField "LoseLeagueModel" "lost") ∈ lw_all := lw_g (lw_at lw_m4 220 rfl) rfl
theorem q1004 : (Jvm.Cond.lays "LoseLeagueModel" "LoseLeagueModel" "draws" "I") ∈ lw_all := lw_g (lw_at lw_m4 221 rfl) rfl
theorem q1005 : (Jvm.Cond.soleField "LoseLeagueModel" "draws") ∈ lw_all := lw_g (lw_at lw_m4 222 rfl) rfl
theorem q1006 : (Jvm.Cond.lays "LoseLeagueModel" "LoseLeagueModel" "skipped" "I") ∈ lw_all := lw_g (lw_at lw_m4 223 rfl) rfl
theorem q1007 : (Jvm.Cond.soleField "LoseLeagueModel" "skipped") ∈ lw_all := lw_g (lw_at lw_m4 224 rfl) rfl
theorem q1008 : (Jvm.Cond.laysFinal "LoseLeagueModel" "LoseLeagueModel" "bestRow" "[I") ∈ lw_all := lw_g (lw_at lw_m4 225 rfl) rfl
theorem q1009 : (Jvm.Cond.soleField "LoseLeagueModel" "bestRow") ∈ lw_all := lw_g (lw_at lw_m4 226 rfl) rfl
theorem q1010 : (Jvm.Cond.laysFinal "LoseLeagueModel" "LoseLeagueModel" "seen" "[I") ∈ lw_all := lw_g (lw_at lw_m4 227 rfl) rfl
theorem q1011 : (Jvm.Cond.soleField "LoseLeagueModel" "seen") ∈ lw_all := lw_g (lw_at lw_m4 228 rfl) rfl
theorem q1012 : (Jvm.Cond.lays "LoseLeagueModel" "LoseLeagueModel" "seenMany" "I") ∈ lw_all := lw_g (lw_at lw_m4 229 rfl) rfl
theorem q1013 : (Jvm.Cond.soleField "LoseLeagueModel" "seenMany") ∈ lw_all := lw_g (lw_at lw_m4 230 rfl) rfl
theorem q1014 : (Jvm.Cond.laysFinal "LoseLeagueModel" "LoseLeagueModel" "loserBy" "[I") ∈ lw_all := lw_g (lw_at lw_m4 231 rfl) rfl
theorem q1015 : (Jvm.Cond.soleField "LoseLeagueModel" "loserBy") ∈ lw_all := lw_g (lw_at lw_m4 232 rfl) rfl
theorem q1016 : (Jvm.Cond.laysFinal "LoseLeagueModel" "LoseLeagueModel" "isKept" "[Z") ∈ lw_all := lw_g (lw_at lw_m4 233 rfl) rfl
theorem q1017 : (Jvm.Cond.soleField "LoseLeagueModel" "isKept") ∈ lw_all := lw_g (lw_at lw_m4 234 rfl) rfl
theorem q1018 : (Jvm.Cond.laysFinal "LoseLeagueModel" "LoseLeagueModel" "lanes" "[I") ∈ lw_all := lw_g (lw_at lw_m4 235 rfl) rfl
theorem q1019 : (Jvm.Cond.soleField "LoseLeagueModel" "lanes") ∈ lw_all := lw_g (lw_at lw_m4 236 rfl) rfl
theorem q1020 : (Jvm.Cond.laysFinal "LoseLeagueModel" "LoseLeagueModel" "lengths" "[I") ∈ lw_all := lw_g (lw_at lw_m4 237 rfl) rfl
theorem q1021 : (Jvm.Cond.soleField "LoseLeagueModel" "lengths") ∈ lw_all := lw_g (lw_at lw_m4 238 rfl) rfl
theorem q1022 : (Jvm.Cond.laysFinal "LoseLeagueModel" "LoseLeagueModel" "cells" "[I") ∈ lw_all := lw_g (lw_at lw_m4 239 rfl) rfl
theorem q1023 : (Jvm.Cond.soleField "LoseLeagueModel" "cells") ∈ lw_all := lw_g (lw_at lw_m5 0 rfl) rfl
theorem q1024 : (Jvm.Cond.lays "LoseLeagueModel" "LoseLeagueModel" "torn" "I") ∈ lw_all := lw_g (lw_at lw_m5 1 rfl) rfl
theorem q1025 : (Jvm.Cond.soleField "LoseLeagueModel" "torn") ∈ lw_all := lw_g (lw_at lw_m5 2 rfl) rfl
theorem q1026 : (Jvm.Cond.superclass "LoseLeagueModel" "java/lang/Object") ∈ lw_all := lw_g (lw_at lw_m5 3 rfl) rfl
theorem q1029 : (Jvm.Cond.instanceMethod ({ cls := "LoseLeagueModel", name := "feed", desc := "(I)I" } : Jvm.MethodName)) ∈ lw_all := lw_g (lw_at lw_m5 6 rfl) rfl
theorem q1030 : (Jvm.Cond.selects "LoseLeagueModel" ({ cls := "LoseLeagueModel", name := "feed", desc := "(I)I" } : Jvm.MethodName) ({ cls := "LoseLeagueModel", name := "feed", desc := "(I)I" } : Jvm.MethodName)) ∈ lw_all := lw_g (lw_at lw_m5 7 rfl) rfl
theorem q1031 : (Jvm.Cond.code ({ cls := "LoseLeagueModel", name := "feed", desc := "(I)I" } : Jvm.MethodName) prog_11_method_4_code (2 : Nat) (Option.some Jvm.ClassFile.FieldType.int)) ∈ lw_all := lw_g (lw_at lw_m5 8 rfl) rfl
theorem q1032 : (Jvm.Cond.constantLong "LoseLeagueModel" (51 : Nat) (127 : Int64)) ∈ lw_all := lw_g (lw_at lw_m5 9 rfl) rfl
theorem q1033 : (Jvm.Cond.methodLink "LoseLeagueModel" (53 : Nat) ({ cls := "LoseLeagueModel", name := "in", desc := "(JJJ)Z" } : Jvm.MethodName)) ∈ lw_all := lw_g (lw_at lw_m5 10 rfl) rfl
theorem q1034 : (Jvm.Cond.static ({ cls := "LoseLeagueModel", name := "in", desc := "(JJJ)Z" } : Jvm.MethodName)) ∈ lw_all := lw_g (lw_at lw_m5 11 rfl) rfl
theorem q1035 : (Jvm.Cond.code ({ cls := "LoseLeagueModel", name := "in", desc := "(JJJ)Z" } : Jvm.MethodName) prog_11_method_3_code (6 : Nat) (Option.some Jvm.ClassFile.FieldType.boolean)) ∈ lw_all := lw_g (lw_at lw_m5 12 rfl) rfl
theorem q1037 : (Jvm.Cond.instanceMethod ({ cls := "LoseLeagueModel", name := "end", desc := "(I)I" } : Jvm.MethodName)) ∈ lw_all := lw_g (lw_at lw_m5 14 rfl) rfl
theorem q1038 : (Jvm.Cond.selects "LoseLeagueModel" ({ cls := "LoseLeagueModel", name := "end", desc := "(I)I" } : Jvm.MethodName) ({ cls := "LoseLeagueModel", name := "end", desc := "(I)I" } : Jvm.MethodName)) ∈ lw_all := lw_g (lw_at lw_m5 15 rfl) rfl
theorem q1039 : (Jvm.Cond.code ({ cls := "LoseLeagueModel", name := "end", desc := "(I)I" } : Jvm.MethodName) prog_11_method_5_code (3 : Nat) (Option.some Jvm.ClassFile.FieldType.int)) ∈ lw_all := lw_g (lw_at lw_m5 16 rfl) rfl
theorem q1041 : (Jvm.Cond.instanceMethod ({ cls := "LoseLeagueModel", name := "text", desc := "()I" } : Jvm.MethodName)) ∈ lw_all := lw_g (lw_at lw_m5 18 rfl) rfl
theorem q1042 : (Jvm.Cond.selects "LoseLeagueModel" ({ cls := "LoseLeagueModel", name := "text", desc := "()I" } : Jvm.MethodName) ({ cls := "LoseLeagueModel", name := "text", desc := "()I" } : Jvm.MethodName)) ∈ lw_all := lw_g (lw_at lw_m5 19 rfl) rfl
theorem q1043 : (Jvm.Cond.code ({ cls := "LoseLeagueModel", name := "text", desc := "()I" } : Jvm.MethodName) prog_11_method_14_code (3 : Nat) (Option.some Jvm.ClassFile.FieldType.int)) ∈ lw_all := lw_g (lw_at lw_m5 20 rfl) rfl
theorem q1044 : (Jvm.Cond.methodLink "LoseLeagueModel" (94 : Nat) ({ cls := "LoseLeagueModel", name := "step", desc := "()V" } : Jvm.MethodName)) ∈ lw_all := lw_g (lw_at lw_m5 21 rfl) rfl
theorem q1045 : (Jvm.Cond.privateMethod ({ cls := "LoseLeagueModel", name := "step", desc := "()V" } : Jvm.MethodName)) ∈ lw_tbl := lw_at lw_m5 22 rfl
theorem q1046 : (Jvm.Cond.instanceMethod ({ cls := "LoseLeagueModel", name := "step", desc := "()V" } : Jvm.MethodName)) ∈ lw_all := lw_g (lw_at lw_m5 23 rfl) rfl
theorem q1047 : (Jvm.Cond.code ({ cls := "LoseLeagueModel", name := "step", desc := "()V" } : Jvm.MethodName) prog_11_method_9_code (2 : Nat) (Option.none : Option Jvm.ClassFile.FieldType)) ∈ lw_all := lw_g (lw_at lw_m5 24 rfl) rfl
theorem q1048 : (Jvm.Cond.methodLink "LoseLeagueModel" (75 : Nat) ({ cls := "LoseLeagueModel", name := "byteAt", desc := "(I)I" } : Jvm.MethodName)) ∈ lw_all := lw_g (lw_at lw_m5 25 rfl) rfl
theorem q1049 : (Jvm.Cond.privateMethod ({ cls := "LoseLeagueModel", name := "byteAt", desc := "(I)I" } : Jvm.MethodName)) ∈ lw_tbl := lw_at lw_m5 26 rfl
theorem q1050 : (Jvm.Cond.instanceMethod ({ cls := "LoseLeagueModel", name := "byteAt", desc := "(I)I" } : Jvm.MethodName)) ∈ lw_all := lw_g (lw_at lw_m5 27 rfl) rfl
theorem q1051 : (Jvm.Cond.code ({ cls := "LoseLeagueModel", name := "byteAt", desc := "(I)I" } : Jvm.MethodName) prog_11_method_6_code (2 : Nat) (Option.some Jvm.ClassFile.FieldType.int)) ∈ lw_all := lw_g (lw_at lw_m5 28 rfl) rfl
theorem q1052 : (Jvm.Cond.constantLong "LoseLeagueModel" (82 : Nat) (97 : Int64)) ∈ lw_all := lw_g (lw_at lw_m5 29 rfl) rfl
theorem q1053 : (Jvm.Cond.constantLong "LoseLeagueModel" (84 : Nat) (122 : Int64)) ∈ lw_all := lw_g (lw_at lw_m5 30 rfl) rfl
theorem q1054 : (Jvm.Cond.constantLong "LoseLeagueModel" (86 : Nat) (48 : Int64)) ∈ lw_all := lw_g (lw_at lw_m5 31 rfl) rfl
theorem q1055 : (Jvm.Cond.constantLong "LoseLeagueModel" (88 : Nat) (57 : Int64)) ∈ lw_all := lw_g (lw_at lw_m5 32 rfl) rfl
theorem q1056 : (Jvm.Cond.methodLink "LoseLeagueModel" (90 : Nat) ({ cls := "LoseLeagueModel", name := "fails", desc := "(I)V" } : Jvm.MethodName)) ∈ lw_all := lw_g (lw_at lw_m5 33 rfl) rfl
theorem q1057 : (Jvm.Cond.privateMethod ({ cls := "LoseLeagueModel", name := "fails", desc := "(I)V" } : Jvm.MethodName)) ∈ lw_tbl := lw_at lw_m5 34 rfl
theorem q1058 : (Jvm.Cond.instanceMethod ({ cls := "LoseLeagueModel", name := "fails", desc := "(I)V" } : Jvm.MethodName)) ∈ lw_all := lw_g (lw_at lw_m5 35 rfl) rfl
theorem q1059 : (Jvm.Cond.code ({ cls := "LoseLeagueModel", name := "fails", desc := "(I)V" } : Jvm.MethodName) prog_11_method_7_code (2 : Nat) (Option.none : Option Jvm.ClassFile.FieldType)) ∈ lw_all := lw_g (lw_at lw_m5 36 rfl) rfl
theorem q1060 : (Jvm.Cond.methodLink "LoseLeagueModel" (119 : Nat) ({ cls := "LoseLeagueModel", name := "readLine", desc := "()V" } : Jvm.MethodName)) ∈ lw_all := lw_g (lw_at lw_m5 37 rfl) rfl
theorem q1061 : (Jvm.Cond.privateMethod ({ cls := "LoseLeagueModel", name := "readLine", desc := "()V" } : Jvm.MethodName)) ∈ lw_tbl := lw_at lw_m5 38 rfl
theorem q1062 : (Jvm.Cond.instanceMethod ({ cls := "LoseLeagueModel", name := "readLine", desc := "()V" } : Jvm.MethodName)) ∈ lw_all := lw_g (lw_at lw_m5 39 rfl) rfl
theorem q1063 : (Jvm.Cond.code ({ cls := "LoseLeagueModel", name := "readLine", desc := "()V" } : Jvm.MethodName) prog_11_method_13_code (2 : Nat) (Option.none : Option Jvm.ClassFile.FieldType)) ∈ lw_all := lw_g (lw_at lw_m5 40 rfl) rfl
theorem q1064 : (Jvm.Cond.methodLink "LoseLeagueModel" (111 : Nat) ({ cls := "LoseLeagueModel", name := "nameHere", desc := "()I" } : Jvm.MethodName)) ∈ lw_all := lw_g (lw_at lw_m5 41 rfl) rfl
theorem q1065 : (Jvm.Cond.privateMethod ({ cls := "LoseLeagueModel", name := "nameHere", desc := "()I" } : Jvm.MethodName)) ∈ lw_tbl := lw_at lw_m5 42 rfl
theorem q1066 : (Jvm.Cond.instanceMethod ({ cls := "LoseLeagueModel", name := "nameHere", desc := "()I" } : Jvm.MethodName)) ∈ lw_all := lw_g (lw_at lw_m5 43 rfl) rfl
theorem q1067 : (Jvm.Cond.code ({ cls := "LoseLeagueModel", name := "nameHere", desc := "()I" } : Jvm.MethodName) prog_11_method_8_code (4 : Nat) (Option.some Jvm.ClassFile.FieldType.int)) ∈ lw_all := lw_g (lw_at lw_m5 44 rfl) rfl
theorem q1068 : (Jvm.Cond.constantLong "LoseLeagueModel" (114 : Nat) (4 : Int64)) ∈ lw_all := lw_g (lw_at lw_m5 45 rfl) rfl
theorem q1069 : (Jvm.Cond.methodLink "LoseLeagueModel" (116 : Nat) ({ cls := "LoseLeagueModel", name := "readMore", desc := "(I)V" } : Jvm.MethodName)) ∈ lw_all := lw_g (lw_at lw_m5 46 rfl) rfl
theorem q1070 : (Jvm.Cond.privateMethod ({ cls := "LoseLeagueModel", name := "readMore", desc := "(I)V" } : Jvm.MethodName)) ∈ lw_tbl := lw_at lw_m5 47 rfl
theorem q1071 : (Jvm.Cond.instanceMethod ({ cls := "LoseLeagueModel", name := "readMore", desc := "(I)V" } : Jvm.MethodName)) ∈ lw_all := lw_g (lw_at lw_m5 48 rfl) rfl
theorem q1072 : (Jvm.Cond.code ({ cls := "LoseLeagueModel", name := "readMore", desc := "(I)V" } : Jvm.MethodName) prog_11_method_12_code (4 : Nat) (Option.none : Option Jvm.ClassFile.FieldType)) ∈ lw_all := lw_g (lw_at lw_m5 49 rfl) rfl
theorem q1073 : (Jvm.Cond.methodLink "LoseLeagueModel" (97 : Nat) ({ cls := "LoseLeagueModel", name := "number", desc := "(II)I" } : Jvm.MethodName)) ∈ lw_all := lw_g (lw_at lw_m5 50 rfl) rfl
theorem q1074 : (Jvm.Cond.privateMethod ({ cls := "LoseLeagueModel", name := "number", desc := "(II)I" } : Jvm.MethodName)) ∈ lw_tbl := lw_at lw_m5 51 rfl
theorem q1075 : (Jvm.Cond.instanceMethod ({ cls := "LoseLeagueModel", name := "number", desc := "(II)I" } : Jvm.MethodName)) ∈ lw_all := lw_g (lw_at lw_m5 52 rfl) rfl
theorem q1076 : (Jvm.Cond.code ({ cls := "LoseLeagueModel", name := "number", desc := "(II)I" } : Jvm.MethodName) prog_11_method_10_code (4 : Nat) (Option.some Jvm.ClassFile.FieldType.int)) ∈ lw_all := lw_g (lw_at lw_m5 53 rfl) rfl
theorem q1077 : (Jvm.Cond.methodLink "LoseLeagueModel" (107 : Nat) ({ cls := "LoseLeagueModel", name := "townHere", desc := "()I" } : Jvm.MethodName)) ∈ lw_all := lw_g (lw_at lw_m5 54 rfl) rfl
theorem q1078 : (Jvm.Cond.privateMethod ({ cls := "LoseLeagueModel", name := "townHere", desc := "()I" } : Jvm.MethodName)) ∈ lw_tbl := lw_at lw_m5 55 rfl
theorem q1079 : (Jvm.Cond.instanceMethod ({ cls := "LoseLeagueModel", name := "townHere", desc := "()I" } : Jvm.MethodName)) ∈ lw_all := lw_g (lw_at lw_m5 56 rfl) rfl
theorem q1080 : (Jvm.Cond.code ({ cls := "LoseLeagueModel", name := "townHere", desc := "()I" } : Jvm.MethodName) prog_11_method_11_code (2 : Nat) (Option.some Jvm.ClassFile.FieldType.int)) ∈ lw_all := lw_g (lw_at lw_m5 57 rfl) rfl
theorem q1082 : (Jvm.Cond.instanceMethod ({ cls := "LoseLeagueModel", name := "fault", desc := "()I" } : Jvm.MethodName)) ∈ lw_all := lw_g (lw_at lw_m5 59 rfl) rfl
theorem q1083 : (Jvm.Cond.selects "LoseLeagueModel" ({ cls := "LoseLeagueModel", name := "fault", desc := "()I" } : Jvm.MethodName) ({ cls := "LoseLeagueModel", name := "fault", desc := "()I" } : Jvm.MethodName)) ∈ lw_all := lw_g (lw_at lw_m5 60 rfl) rfl
theorem q1084 : (Jvm.Cond.code ({ cls := "LoseLeagueModel", name := "fault", desc := "()I" } : Jvm.MethodName) prog_11_method_15_code (1 : Nat) (Option.some Jvm.ClassFile.FieldType.int)) ∈ lw_all := lw_g (lw_at lw_m5 61 rfl) rfl
theorem q1086 : (Jvm.Cond.instanceMethod ({ cls := "LoseLeagueModel", name := "rule", desc := "(I)I" } : Jvm.MethodName)) ∈ lw_all := lw_g (lw_at lw_m5 63 rfl) rfl
theorem q1087 : (Jvm.Cond.selects "LoseLeagueModel" ({ cls := "LoseLeagueModel", name := "rule", desc := "(I)I" } : Jvm.MethodName) ({ cls := "LoseLeagueModel", name := "rule", desc := "(I)I" } : Jvm.MethodName)) ∈ lw_all := lw_g (lw_at lw_m5 64 rfl) rfl
theorem q1088 : (Jvm.Cond.code ({ cls := "LoseLeagueModel", name := "rule", desc := "(I)I" } : Jvm.MethodName) prog_11_method_27_code (2 : Nat) (Option.some Jvm.ClassFile.FieldType.int)) ∈ lw_all := lw_g (lw_at lw_m5 65 rfl) rfl
theorem q1089 : (Jvm.Cond.methodLink "LoseLeagueModel" (151 : Nat) ({ cls := "LoseLeagueModel", name := "placeOn", desc := "(I)I" } : Jvm.MethodName)) ∈ lw_all := lw_g (lw_at lw_m5 66 rfl) rfl
theorem q1090 : (Jvm.Cond.privateMethod ({ cls := "LoseLeagueModel", name := "placeOn", desc := "(I)I" } : Jvm.MethodName)) ∈ lw_tbl := lw_at lw_m5 67 rfl
theorem q1091 : (Jvm.Cond.instanceMethod ({ cls := "LoseLeagueModel", name := "placeOn", desc := "(I)I" } : Jvm.MethodName)) ∈ lw_all := lw_g (lw_at lw_m5 68 rfl) rfl
theorem q1092 : (Jvm.Cond.code ({ cls := "LoseLeagueModel", name := "placeOn", desc := "(I)I" } : Jvm.MethodName) prog_11_method_22_code (2 : Nat) (Option.some Jvm.ClassFile.FieldType.int)) ∈ lw_all := lw_g (lw_at lw_m5 69 rfl) rfl
theorem q1093 : (Jvm.Cond.methodLink "LoseLeagueModel" (161 : Nat) ({ cls := "LoseLeagueModel", name := "losersOn", desc := "(I)I" } : Jvm.MethodName)) ∈ lw_all := lw_g (lw_at lw_m5 70 rfl) rfl
theorem q1094 : (Jvm.Cond.privateMethod ({ cls := "LoseLeagueModel", name := "losersOn", desc := "(I)I" } : Jvm.MethodName)) ∈ lw_tbl := lw_at lw_m5 71 rfl
theorem q1095 : (Jvm.Cond.instanceMethod ({ cls := "LoseLeagueModel", name := "losersOn", desc := "(I)I" } : Jvm.MethodName)) ∈ lw_all := lw_g (lw_at lw_m5 72 rfl) rfl
theorem q1096 : (Jvm.Cond.code ({ cls := "LoseLeagueModel", name := "losersOn", desc := "(I)I" } : Jvm.MethodName) prog_11_method_26_code (4 : Nat) (Option.some Jvm.ClassFile.FieldType.int)) ∈ lw_all := lw_g (lw_at lw_m5 73 rfl) rfl
theorem q1097 : (Jvm.Cond.methodLink "LoseLeagueModel" (164 : Nat) ({ cls := "LoseLeagueModel", name := "owedOn", desc := "(I)I" } : Jvm.MethodName)) ∈ lw_all := lw_g (lw_at lw_m5 74 rfl) rfl
theorem q1098 : (Jvm.Cond.privateMethod ({ cls := "LoseLeagueModel", name := "owedOn", desc := "(I)I" } : Jvm.MethodName)) ∈ lw_tbl := lw_at lw_m5 75 rfl
theorem q1099 : (Jvm.Cond.instanceMethod ({ cls := "LoseLeagueModel", name := "owedOn", desc := "(I)I" } : Jvm.MethodName)) ∈ lw_all := lw_g (lw_at lw_m5 76 rfl) rfl
theorem q1100 : (Jvm.Cond.code ({ cls := "LoseLeagueModel", name := "owedOn", desc := "(I)I" } : Jvm.MethodName) prog_11_method_25_code (4 : Nat) (Option.some Jvm.ClassFile.FieldType.int)) ∈ lw_all := lw_g (lw_at lw_m5 77 rfl) rfl
theorem q1102 : (Jvm.Cond.instanceMethod ({ cls := "LoseLeagueModel", name := "town", desc := "(II)I" } : Jvm.MethodName)) ∈ lw_all := lw_g (lw_at lw_m5 79 rfl) rfl
theorem q1103 : (Jvm.Cond.selects "LoseLeagueModel" ({ cls := "LoseLeagueModel", name := "town", desc := "(II)I" } : Jvm.MethodName) ({ cls := "LoseLeagueModel", name := "town", desc := "(II)I" } : Jvm.MethodName)) ∈ lw_all := lw_g (lw_at lw_m5 80 rfl) rfl
theorem q1104 : (Jvm.Cond.code ({ cls := "LoseLeagueModel", name := "town", desc := "(II)I" } : Jvm.MethodName) prog_11_method_28_code (3 : Nat) (Option.some Jvm.ClassFile.FieldType.int)) ∈ lw_all := lw_g (lw_at lw_m5 81 rfl) rfl
theorem q1105 : (Jvm.Cond.methodLink "LoseLeagueModel" (131 : Nat) ({ cls := "LoseLeagueModel", name := "isTown", desc := "(I)Z" } : Jvm.MethodName)) ∈ lw_all := lw_g (lw_at lw_m5 82 rfl) rfl
theorem q1106 : (Jvm.Cond.privateMethod ({ cls := "LoseLeagueModel", name := "isTown", desc := "(I)Z" } : Jvm.MethodName)) ∈ lw_tbl := lw_at lw_m5 83 rfl
theorem q1107 : (Jvm.Cond.instanceMethod ({ cls := "LoseLeagueModel", name := "isTown", desc := "(I)Z" } : Jvm.MethodName)) ∈ lw_all := lw_g (lw_at lw_m5 84 rfl) rfl
theorem q1108 : (Jvm.Cond.code ({ cls := "LoseLeagueModel", name := "isTown", desc := "(I)Z" } : Jvm.MethodName) prog_11_method_16_code (2 : Nat) (Option.some Jvm.ClassFile.FieldType.boolean)) ∈ lw_all := lw_g (lw_at lw_m5 85 rfl) rfl
theorem q1109 : (Jvm.Cond.methodLink "LoseLeagueModel" (135 : Nat) ({ cls := "LoseLeagueModel", name := "playsOn", desc := "(II)I" } : Jvm.MethodName)) ∈ lw_all := lw_g (lw_at lw_m5 86 rfl) rfl
theorem q1110 : (Jvm.Cond.privateMethod ({ cls := "LoseLeagueModel", name := "playsOn", desc := "(II)I" } : Jvm.MethodName)) ∈ lw_tbl := lw_at lw_m5 87 rfl
theorem q1111 : (Jvm.Cond.instanceMethod ({ cls := "LoseLeagueModel", name := "playsOn", desc := "(II)I" } : Jvm.MethodName)) ∈ lw_all := lw_g (lw_at lw_m5 88 rfl) rfl
theorem q1112 : (Jvm.Cond.code ({ cls := "LoseLeagueModel", name := "playsOn", desc := "(II)I" } : Jvm.MethodName) prog_11_method_19_code (6 : Nat) (Option.some Jvm.ClassFile.FieldType.int)) ∈ lw_all := lw_g (lw_at lw_m5 89 rfl) rfl
theorem q1114 : (Jvm.Cond.instanceMethod ({ cls := "LoseLeagueModel", name := "fixture", desc := "(II)I" } : Jvm.MethodName)) ∈ lw_all := lw_g (lw_at lw_m5 91 rfl) rfl
theorem q1115 : (Jvm.Cond.selects "LoseLeagueModel" ({ cls := "LoseLeagueModel", name := "fixture", desc := "(II)I" } : Jvm.MethodName) ({ cls := "LoseLeagueModel", name := "fixture", desc := "(II)I" } : Jvm.MethodName)) ∈ lw_all := lw_g (lw_at lw_m5 92 rfl) rfl
theorem q1116 : (Jvm.Cond.code ({ cls := "LoseLeagueModel", name := "fixture", desc := "(II)I" } : Jvm.MethodName) prog_11_method_29_code (3 : Nat) (Option.some Jvm.ClassFile.FieldType.int)) ∈ lw_all := lw_g (lw_at lw_m5 93 rfl) rfl
theorem q1117 : (Jvm.Cond.methodLink "LoseLeagueModel" (167 : Nat) ({ cls := "LoseLeagueModel", name := "isFixture", desc := "(I)Z" } : Jvm.MethodName)) ∈ lw_all := lw_g (lw_at lw_m5 94 rfl) rfl
theorem q1118 : (Jvm.Cond.privateMethod ({ cls := "LoseLeagueModel", name := "isFixture", desc := "(I)Z" } : Jvm.MethodName)) ∈ lw_tbl := lw_at lw_m5 95 rfl
theorem q1119 : (Jvm.Cond.instanceMethod ({ cls := "LoseLeagueModel", name := "isFixture", desc := "(I)Z" } : Jvm.MethodName)) ∈ lw_all := lw_g (lw_at lw_m5 96 rfl) rfl
theorem q1120 : (Jvm.Cond.code ({ cls := "LoseLeagueModel", name := "isFixture", desc := "(I)Z" } : Jvm.MethodName) prog_11_method_18_code (2 : Nat) (Option.some Jvm.ClassFile.FieldType.boolean)) ∈ lw_all := lw_g (lw_at lw_m5 97 rfl) rfl
theorem q1122 : (Jvm.Cond.instanceMethod ({ cls := "LoseLeagueModel", name := "game", desc := "(II)I" } : Jvm.MethodName)) ∈ lw_all := lw_g (lw_at lw_m5 99 rfl) rfl
theorem q1123 : (Jvm.Cond.selects "LoseLeagueModel" ({ cls := "LoseLeagueModel", name := "game", desc := "(II)I" } : Jvm.MethodName) ({ cls := "LoseLeagueModel", name := "game", desc := "(II)I" } : Jvm.MethodName)) ∈ lw_all := lw_g (lw_at lw_m5 100 rfl) rfl
theorem q1124 : (Jvm.Cond.code ({ cls := "LoseLeagueModel", name := "game", desc := "(II)I" } : Jvm.MethodName) prog_11_method_30_code (3 : Nat) (Option.some Jvm.ClassFile.FieldType.int)) ∈ lw_all := lw_g (lw_at lw_m5 101 rfl) rfl
theorem q1125 : (Jvm.Cond.methodLink "LoseLeagueModel" (170 : Nat) ({ cls := "LoseLeagueModel", name := "isPair", desc := "(II)Z" } : Jvm.MethodName)) ∈ lw_all := lw_g (lw_at lw_m5 102 rfl) rfl
theorem q1126 : (Jvm.Cond.privateMethod ({ cls := "LoseLeagueModel", name := "isPair", desc := "(II)Z" } : Jvm.MethodName)) ∈ lw_tbl := lw_at lw_m5 103 rfl
theorem q1127 : (Jvm.Cond.instanceMethod ({ cls := "LoseLeagueModel", name := "isPair", desc := "(II)Z" } : Jvm.MethodName)) ∈ lw_all := lw_g (lw_at lw_m5 104 rfl) rfl
theorem q1128 : (Jvm.Cond.code ({ cls := "LoseLeagueModel", name := "isPair", desc := "(II)Z" } : Jvm.MethodName) prog_11_method_17_code (3 : Nat) (Option.some Jvm.ClassFile.FieldType.boolean)) ∈ lw_all := lw_g (lw_at lw_m5 105 rfl) rfl
theorem q1129 : (Jvm.Cond.methodLink "LoseLeagueModel" (138 : Nat) ({ cls := "LoseLeagueModel", name := "gameOn", desc := "(III)I" } : Jvm.MethodName)) ∈ lw_all := lw_g (lw_at lw_m5 106 rfl) rfl
theorem q1130 : (Jvm.Cond.privateMethod ({ cls := "LoseLeagueModel", name := "gameOn", desc := "(III)I" } : Jvm.MethodName)) ∈ lw_tbl := lw_at lw_m5 107 rfl
theorem q1131 : (Jvm.Cond.instanceMethod ({ cls := "LoseLeagueModel", name := "gameOn", desc := "(III)I" } : Jvm.MethodName)) ∈ lw_all := lw_g (lw_at lw_m5 108 rfl) rfl
theorem q1132 : (Jvm.Cond.code ({ cls := "LoseLeagueModel", name := "gameOn", desc := "(III)I" } : Jvm.MethodName) prog_11_method_20_code (6 : Nat) (Option.some Jvm.ClassFile.FieldType.int)) ∈ lw_all := lw_g (lw_at lw_m5 109 rfl) rfl
theorem q1134 : (Jvm.Cond.instanceMethod ({ cls := "LoseLeagueModel", name := "alter", desc := "(III)I" } : Jvm.MethodName)) ∈ lw_all := lw_g (lw_at lw_m5 111 rfl) rfl
theorem q1135 : (Jvm.Cond.selects "LoseLeagueModel" ({ cls := "LoseLeagueModel", name := "alter", desc := "(III)I" } : Jvm.MethodName) ({ cls := "LoseLeagueModel", name := "alter", desc := "(III)I" } : Jvm.MethodName)) ∈ lw_all := lw_g (lw_at lw_m5 112 rfl) rfl
theorem q1136 : (Jvm.Cond.code ({ cls := "LoseLeagueModel", name := "alter", desc := "(III)I" } : Jvm.MethodName) prog_11_method_32_code (5 : Nat) (Option.some Jvm.ClassFile.FieldType.int)) ∈ lw_all := lw_g (lw_at lw_m5 113 rfl) rfl
theorem q1137 : (Jvm.Cond.constantLong "LoseLeagueModel" (174 : Nat) (3 : Int64)) ∈ lw_all := lw_g (lw_at lw_m5 114 rfl) rfl
theorem q1138 : (Jvm.Cond.methodLink "LoseLeagueModel" (176 : Nat) ({ cls := "LoseLeagueModel", name := "puts", desc := "(ZII)I" } : Jvm.MethodName)) ∈ lw_all := lw_g (lw_at lw_m5 115 rfl) rfl
theorem q1139 : (Jvm.Cond.privateMethod ({ cls := "LoseLeagueModel", name := "puts", desc := "(ZII)I" } : Jvm.MethodName)) ∈ lw_tbl := lw_at lw_m5 116 rfl
theorem q1140 : (Jvm.Cond.instanceMethod ({ cls := "LoseLeagueModel", name := "puts", desc := "(ZII)I" } : Jvm.MethodName)) ∈ lw_all := lw_g (lw_at lw_m5 117 rfl) rfl
theorem q1141 : (Jvm.Cond.code ({ cls := "LoseLeagueModel", name := "puts", desc := "(ZII)I" } : Jvm.MethodName) prog_11_method_31_code (5 : Nat) (Option.some Jvm.ClassFile.FieldType.int)) ∈ lw_all := lw_g (lw_at lw_m5 118 rfl) rfl
theorem q1143 : (Jvm.Cond.instanceMethod ({ cls := "LoseLeagueModel", name := "lend", desc := "(III)I" } : Jvm.MethodName)) ∈ lw_all := lw_g (lw_at lw_m5 120 rfl) rfl
theorem q1144 : (Jvm.Cond.selects "LoseLeagueModel" ({ cls := "LoseLeagueModel", name := "lend", desc := "(III)I" } : Jvm.MethodName) ({ cls := "LoseLeagueModel", name := "lend", desc := "(III)I" } : Jvm.MethodName)) ∈ lw_all := lw_g (lw_at lw_m5 121 rfl) rfl
theorem q1145 : (Jvm.Cond.code ({ cls := "LoseLeagueModel", name := "lend", desc := "(III)I" } : Jvm.MethodName) prog_11_method_34_code (4 : Nat) (Option.some Jvm.ClassFile.FieldType.int)) ∈ lw_all := lw_g (lw_at lw_m5 122 rfl) rfl
theorem q1146 : (Jvm.Cond.constantLong "LoseLeagueModel" (180 : Nat) (20 : Int64)) ∈ lw_all := lw_g (lw_at lw_m5 123 rfl) rfl
theorem q1147 : (Jvm.Cond.methodLink "LoseLeagueModel" (182 : Nat) ({ cls := "LoseLeagueModel", name := "lendsOn", desc := "(IIII)I" } : Jvm.MethodName)) ∈ lw_all := lw_g (lw_at lw_m5 124 rfl) rfl
theorem q1148 : (Jvm.Cond.privateMethod ({ cls := "LoseLeagueModel", name := "lendsOn", desc := "(IIII)I" } : Jvm.MethodName)) ∈ lw_tbl := lw_at lw_m5 125 rfl
theorem q1149 : (Jvm.Cond.instanceMethod ({ cls := "LoseLeagueModel", name := "lendsOn", desc := "(IIII)I" } : Jvm.MethodName)) ∈ lw_all := lw_g (lw_at lw_m5 126 rfl) rfl
theorem q1150 : (Jvm.Cond.code ({ cls := "LoseLeagueModel", name := "lendsOn", desc := "(IIII)I" } : Jvm.MethodName) prog_11_method_33_code (5 : Nat) (Option.some Jvm.ClassFile.FieldType.int)) ∈ lw_all := lw_g (lw_at lw_m5 127 rfl) rfl
theorem q1152 : (Jvm.Cond.instanceMethod ({ cls := "LoseLeagueModel", name := "book", desc := "(II)I" } : Jvm.MethodName)) ∈ lw_all := lw_g (lw_at lw_m5 129 rfl) rfl
theorem q1153 : (Jvm.Cond.selects "LoseLeagueModel" ({ cls := "LoseLeagueModel", name := "book", desc := "(II)I" } : Jvm.MethodName) ({ cls := "LoseLeagueModel", name := "book", desc := "(II)I" } : Jvm.MethodName)) ∈ lw_all := lw_g (lw_at lw_m5 130 rfl) rfl
theorem q1154 : (Jvm.Cond.code ({ cls := "LoseLeagueModel", name := "book", desc := "(II)I" } : Jvm.MethodName) prog_11_method_36_code (3 : Nat) (Option.some Jvm.ClassFile.FieldType.int)) ∈ lw_all := lw_g (lw_at lw_m5 131 rfl) rfl
theorem q1155 : (Jvm.Cond.methodLink "LoseLeagueModel" (186 : Nat) ({ cls := "LoseLeagueModel", name := "books", desc := "(II)I" } : Jvm.MethodName)) ∈ lw_all := lw_g (lw_at lw_m5 132 rfl) rfl
theorem q1156 : (Jvm.Cond.privateMethod ({ cls := "LoseLeagueModel", name := "books", desc := "(II)I" } : Jvm.MethodName)) ∈ lw_tbl := lw_at lw_m5 133 rfl
theorem q1157 : (Jvm.Cond.instanceMethod ({ cls := "LoseLeagueModel", name := "books", desc := "(II)I" } : Jvm.MethodName)) ∈ lw_all := lw_g (lw_at lw_m5 134 rfl) rfl
theorem q1158 : (Jvm.Cond.code ({ cls := "LoseLeagueModel", name := "books", desc := "(II)I" } : Jvm.MethodName) prog_11_method_35_code (4 : Nat) (Option.some Jvm.ClassFile.FieldType.int)) ∈ lw_all := lw_g (lw_at lw_m5 135 rfl) rfl
theorem q1160 : (Jvm.Cond.instanceMethod ({ cls := "LoseLeagueModel", name := "strike", desc := "(I)I" } : Jvm.MethodName)) ∈ lw_all := lw_g (lw_at lw_m5 137 rfl) rfl
theorem q1161 : (Jvm.Cond.selects "LoseLeagueModel" ({ cls := "LoseLeagueModel", name := "strike", desc := "(I)I" } : Jvm.MethodName) ({ cls := "LoseLeagueModel", name := "strike", desc := "(I)I" } : Jvm.MethodName)) ∈ lw_all := lw_g (lw_at lw_m5 138 rfl) rfl
theorem q1162 : (Jvm.Cond.code ({ cls := "LoseLeagueModel", name := "strike", desc := "(I)I" } : Jvm.MethodName) prog_11_method_37_code (2 : Nat) (Option.some Jvm.ClassFile.FieldType.int)) ∈ lw_all := lw_g (lw_at lw_m5 139 rfl) rfl
theorem q1164 : (Jvm.Cond.instanceMethod ({ cls := "LoseLeagueModel", name := "weeks", desc := "(I)I" } : Jvm.MethodName)) ∈ lw_all := lw_g (lw_at lw_m5 141 rfl) rfl
theorem q1165 : (Jvm.Cond.selects "LoseLeagueModel" ({ cls := "LoseLeagueModel", name := "weeks", desc := "(I)I" } : Jvm.MethodName) ({ cls := "LoseLeagueModel", name := "weeks", desc := "(I)I" } : Jvm.MethodName)) ∈ lw_all := lw_g (lw_at lw_m5 142 rfl) rfl
theorem q1166 : (Jvm.Cond.code ({ cls := "LoseLeagueModel", name := "weeks", desc := "(I)I" } : Jvm.MethodName) prog_11_method_38_code (3 : Nat) (Option.some Jvm.ClassFile.FieldType.int)) ∈ lw_all := lw_g (lw_at lw_m5 143 rfl) rfl
theorem q1167 : (Jvm.Cond.constantLong "LoseLeagueModel" (189 : Nat) (30 : Int64)) ∈ lw_all := lw_g (lw_at lw_m5 144 rfl) rfl
theorem q1168 : (Jvm.Cond.methodLink "LoseLeagueModel" (191 : Nat) ({ cls := "LoseLeagueModel", name := "weekOn", desc := "(IZ)V" } : Jvm.MethodName)) ∈ lw_all := lw_g (lw_at lw_m5 145 rfl) rfl
theorem q1169 : (Jvm.Cond.privateMethod ({ cls := "LoseLeagueModel", name := "weekOn", desc := "(IZ)V" } : Jvm.MethodName)) ∈ lw_tbl := lw_at lw_m5 146 rfl
theorem q1170 : (Jvm.Cond.instanceMethod ({ cls := "LoseLeagueModel", name := "weekOn", desc := "(IZ)V" } : Jvm.MethodName)) ∈ lw_all := lw_g (lw_at lw_m5 147 rfl) rfl
theorem q1171 : (Jvm.Cond.code ({ cls := "LoseLeagueModel", name := "weekOn", desc := "(IZ)V" } : Jvm.MethodName) prog_11_method_24_code (4 : Nat) (Option.none : Option Jvm.ClassFile.FieldType)) ∈ lw_all := lw_g (lw_at lw_m5 148 rfl) rfl
theorem q1172 : (Jvm.Cond.methodLink "LoseLeagueModel" (154 : Nat) ({ cls := "LoseLeagueModel", name := "playedOn", desc := "(III)V" } : Jvm.MethodName)) ∈ lw_all := lw_g (lw_at lw_m5 149 rfl) rfl
theorem q1173 : (Jvm.Cond.privateMethod ({ cls := "LoseLeagueModel", name := "playedOn", desc := "(III)V" } : Jvm.MethodName)) ∈ lw_tbl := lw_at lw_m5 150 rfl
theorem q1174 : (Jvm.Cond.instanceMethod ({ cls := "LoseLeagueModel", name := "playedOn", desc := "(III)V" } : Jvm.MethodName)) ∈ lw_all := lw_g (lw_at lw_m5 151 rfl) rfl
theorem q1175 : (Jvm.Cond.code ({ cls := "LoseLeagueModel", name := "playedOn", desc := "(III)V" } : Jvm.MethodName) prog_11_method_21_code (7 : Nat) (Option.none : Option Jvm.ClassFile.FieldType)) ∈ lw_all := lw_g (lw_at lw_m5 152 rfl) rfl
theorem q1176 : (Jvm.Cond.methodLink "LoseLeagueModel" (158 : Nat) ({ cls := "LoseLeagueModel", name := "yearsEnd", desc := "(I)V" } : Jvm.MethodName)) ∈ lw_all := lw_g (lw_at lw_m5 153 rfl) rfl
theorem q1177 : (Jvm.Cond.privateMethod ({ cls := "LoseLeagueModel", name := "yearsEnd", desc := "(I)V" } : Jvm.MethodName)) ∈ lw_tbl := lw_at lw_m5 154 rfl
theorem q1178 : (Jvm.Cond.instanceMethod ({ cls := "LoseLeagueModel", name := "yearsEnd", desc := "(I)V" } : Jvm.MethodName)) ∈ lw_all := lw_g (lw_at lw_m5 155 rfl) rfl
theorem q1179 : (Jvm.Cond.code ({ cls := "LoseLeagueModel", name := "yearsEnd", desc := "(I)V" } : Jvm.MethodName) prog_11_method_23_code (4 : Nat) (Option.none : Option Jvm.ClassFile.FieldType)) ∈ lw_all := lw_g (lw_at lw_m5 156 rfl) rfl
theorem q1181 : (Jvm.Cond.instanceMethod ({ cls := "LoseLeagueModel", name := "runs", desc := "(II)I" } : Jvm.MethodName)) ∈ lw_all := lw_g (lw_at lw_m5 158 rfl) rfl
theorem q1182 : (Jvm.Cond.selects "LoseLeagueModel" ({ cls := "LoseLeagueModel", name := "runs", desc := "(II)I" } : Jvm.MethodName) ({ cls := "LoseLeagueModel", name := "runs", desc := "(II)I" } : Jvm.MethodName)) ∈ lw_all := lw_g (lw_at lw_m5 159 rfl) rfl
theorem q1183 : (Jvm.Cond.code ({ cls := "LoseLeagueModel", name := "runs", desc := "(II)I" } : Jvm.MethodName) prog_11_method_41_code (4 : Nat) (Option.some Jvm.ClassFile.FieldType.int)) ∈ lw_all := lw_g (lw_at lw_m5 160 rfl) rfl
theorem q1184 : (Jvm.Cond.constantLong "LoseLeagueModel" (199 : Nat) (60 : Int64)) ∈ lw_all := lw_g (lw_at lw_m5 161 rfl) rfl
theorem q1185 : (Jvm.Cond.methodLink "LoseLeagueModel" (201 : Nat) ({ cls := "LoseLeagueModel", name := "weeksGo", desc := "(II)I" } : Jvm.MethodName)) ∈ lw_all := lw_g (lw_at lw_m5 162 rfl) rfl
theorem q1186 : (Jvm.Cond.privateMethod ({ cls := "LoseLeagueModel", name := "weeksGo", desc := "(II)I" } : Jvm.MethodName)) ∈ lw_tbl := lw_at lw_m5 163 rfl
theorem q1187 : (Jvm.Cond.instanceMethod ({ cls := "LoseLeagueModel", name := "weeksGo", desc := "(II)I" } : Jvm.MethodName)) ∈ lw_all := lw_g (lw_at lw_m5 164 rfl) rfl
theorem q1188 : (Jvm.Cond.code ({ cls := "LoseLeagueModel", name := "weeksGo", desc := "(II)I" } : Jvm.MethodName) prog_11_method_40_code (4 : Nat) (Option.some Jvm.ClassFile.FieldType.int)) ∈ lw_all := lw_g (lw_at lw_m5 165 rfl) rfl
theorem q1189 : (Jvm.Cond.methodLink "LoseLeagueModel" (195 : Nat) ({ cls := "LoseLeagueModel", name := "copies", desc := "(II)V" } : Jvm.MethodName)) ∈ lw_all := lw_g (lw_at lw_m5 166 rfl) rfl
theorem q1190 : (Jvm.Cond.privateMethod ({ cls := "LoseLeagueModel", name := "copies", desc := "(II)V" } : Jvm.MethodName)) ∈ lw_tbl := lw_at lw_m5 167 rfl
theorem q1191 : (Jvm.Cond.instanceMethod ({ cls := "LoseLeagueModel", name := "copies", desc := "(II)V" } : Jvm.MethodName)) ∈ lw_all := lw_g (lw_at lw_m5 168 rfl) rfl
theorem q1192 : (Jvm.Cond.code ({ cls := "LoseLeagueModel", name := "copies", desc := "(II)V" } : Jvm.MethodName) prog_11_method_39_code (4 : Nat) (Option.none : Option Jvm.ClassFile.FieldType)) ∈ lw_all := lw_g (lw_at lw_m5 169 rfl) rfl
theorem q1194 : (Jvm.Cond.instanceMethod ({ cls := "LoseLeagueModel", name := "ahead", desc := "(III)I" } : Jvm.MethodName)) ∈ lw_all := lw_g (lw_at lw_m5 171 rfl) rfl
theorem q1195 : (Jvm.Cond.selects "LoseLeagueModel" ({ cls := "LoseLeagueModel", name := "ahead", desc := "(III)I" } : Jvm.MethodName) ({ cls := "LoseLeagueModel", name := "ahead", desc := "(III)I" } : Jvm.MethodName)) ∈ lw_all := lw_g (lw_at lw_m5 172 rfl) rfl
theorem q1196 : (Jvm.Cond.code ({ cls := "LoseLeagueModel", name := "ahead", desc := "(III)I" } : Jvm.MethodName) prog_11_method_42_code (4 : Nat) (Option.some Jvm.ClassFile.FieldType.int)) ∈ lw_all := lw_g (lw_at lw_m5 173 rfl) rfl
theorem q1197 : (Jvm.Cond.constantLong "LoseLeagueModel" (204 : Nat) (2 : Int64)) ∈ lw_all := lw_g (lw_at lw_m5 174 rfl) rfl
theorem q1199 : (Jvm.Cond.instanceMethod ({ cls := "LoseLeagueModel", name := "loser", desc := "(I)I" } : Jvm.MethodName)) ∈ lw_all := lw_g (lw_at lw_m5 176 rfl) rfl
theorem q1200 : (Jvm.Cond.selects "LoseLeagueModel" ({ cls := "LoseLeagueModel", name := "loser", desc := "(I)I" } : Jvm.MethodName) ({ cls := "LoseLeagueModel", name := "loser", desc := "(I)I" } : Jvm.MethodName)) ∈ lw_all := lw_g (lw_at lw_m5 177 rfl) rfl
theorem q1201 : (Jvm.Cond.code ({ cls := "LoseLeagueModel", name := "loser", desc := "(I)I" } : Jvm.MethodName) prog_11_method_43_code (2 : Nat) (Option.some Jvm.ClassFile.FieldType.int)) ∈ lw_all := lw_g (lw_at lw_m5 178 rfl) rfl
theorem q1203 : (Jvm.Cond.instanceMethod ({ cls := "LoseLeagueModel", name := "loses", desc := "(I)I" } : Jvm.MethodName)) ∈ lw_all := lw_g (lw_at lw_m5 180 rfl) rfl
theorem q1204 : (Jvm.Cond.selects "LoseLeagueModel" ({ cls := "LoseLeagueModel", name := "loses", desc := "(I)I" } : Jvm.MethodName) ({ cls := "LoseLeagueModel", name := "loses", desc := "(I)I" } : Jvm.MethodName)) ∈ lw_all := lw_g (lw_at lw_m5 181 rfl) rfl
theorem q1205 : (Jvm.Cond.code ({ cls := "LoseLeagueModel", name := "loses", desc := "(I)I" } : Jvm.MethodName) prog_11_method_45_code (2 : Nat) (Option.some Jvm.ClassFile.FieldType.int)) ∈ lw_all := lw_g (lw_at lw_m5 182 rfl) rfl
theorem q1206 : (Jvm.Cond.methodLink "LoseLeagueModel" (206 : Nat) ({ cls := "LoseLeagueModel", name := "firstLoss", desc := "(III)I" } : Jvm.MethodName)) ∈ lw_all := lw_g (lw_at lw_m5 183 rfl) rfl
theorem q1207 : (Jvm.Cond.privateMethod ({ cls := "LoseLeagueModel", name := "firstLoss", desc := "(III)I" } : Jvm.MethodName)) ∈ lw_tbl := lw_at lw_m5 184 rfl
theorem q1208 : (Jvm.Cond.instanceMethod ({ cls := "LoseLeagueModel", name := "firstLoss", desc := "(III)I" } : Jvm.MethodName)) ∈ lw_all := lw_g (lw_at lw_m5 185 rfl) rfl
theorem q1209 : (Jvm.Cond.code ({ cls := "LoseLeagueModel", name := "firstLoss", desc := "(III)I" } : Jvm.MethodName) prog_11_method_44_code (5 : Nat) (Option.some Jvm.ClassFile.FieldType.int)) ∈ lw_all := lw_g (lw_at lw_m5 186 rfl) rfl
theorem q1211 : (Jvm.Cond.instanceMethod ({ cls := "LoseLeagueModel", name := "order", desc := "(I)I" } : Jvm.MethodName)) ∈ lw_all := lw_g (lw_at lw_m5 188 rfl) rfl
theorem q1212 : (Jvm.Cond.selects "LoseLeagueModel" ({ cls := "LoseLeagueModel", name := "order", desc := "(I)I" } : Jvm.MethodName) ({ cls := "LoseLeagueModel", name := "order", desc := "(I)I" } : Jvm.MethodName)) ∈ lw_all := lw_g (lw_at lw_m5 189 rfl) rfl
theorem q1213 : (Jvm.Cond.code ({ cls := "LoseLeagueModel", name := "order", desc := "(I)I" } : Jvm.MethodName) prog_11_method_47_code (8 : Nat) (Option.some Jvm.ClassFile.FieldType.int)) ∈ lw_all := lw_g (lw_at lw_m5 190 rfl) rfl
theorem q1214 : (Jvm.Cond.constantLong "LoseLeagueModel" (209 : Nat) (10 : Int64)) ∈ lw_all := lw_g (lw_at lw_m5 191 rfl) rfl
theorem q1215 : (Jvm.Cond.constantLong "LoseLeagueModel" (211 : Nat) (14 : Int64)) ∈ lw_all := lw_g (lw_at lw_m5 192 rfl) rfl
theorem q1216 : (Jvm.Cond.constant "LoseLeagueModel" (213 : Nat) (1000000 : Int32)) ∈ lw_all := lw_g (lw_at lw_m5 193 rfl) rfl
theorem q1217 : (Jvm.Cond.methodLink "LoseLeagueModel" (214 : Nat) ({ cls := "LoseLeagueModel", name := "ordered", desc := "(I)Z" } : Jvm.MethodName)) ∈ lw_all := lw_g (lw_at lw_m5 194 rfl) rfl
theorem q1218 : (Jvm.Cond.privateMethod ({ cls := "LoseLeagueModel", name := "ordered", desc := "(I)Z" } : Jvm.MethodName)) ∈ lw_tbl := lw_at lw_m5 195 rfl
theorem q1219 : (Jvm.Cond.instanceMethod ({ cls := "LoseLeagueModel", name := "ordered", desc := "(I)Z" } : Jvm.MethodName)) ∈ lw_all := lw_g (lw_at lw_m5 196 rfl) rfl
theorem q1220 : (Jvm.Cond.code ({ cls := "LoseLeagueModel", name := "ordered", desc := "(I)Z" } : Jvm.MethodName) prog_11_method_46_code (7 : Nat) (Option.some Jvm.ClassFile.FieldType.boolean)) ∈ lw_all := lw_g (lw_at lw_m5 197 rfl) rfl
theorem q1222 : (Jvm.Cond.instanceMethod ({ cls := "LoseLeagueModel", name := "loan", desc := "(II)I" } : Jvm.MethodName)) ∈ lw_all := lw_g (lw_at lw_m5 199 rfl) rfl
theorem q1223 : (Jvm.Cond.selects "LoseLeagueModel" ({ cls := "LoseLeagueModel", name := "loan", desc := "(II)I" } : Jvm.MethodName) ({ cls := "LoseLeagueModel", name := "loan", desc := "(II)I" } : Jvm.MethodName)) ∈ lw_all := lw_g (lw_at lw_m5 200 rfl) rfl
theorem q1224 : (Jvm.Cond.code ({ cls := "LoseLeagueModel", name := "loan", desc := "(II)I" } : Jvm.MethodName) prog_11_method_48_code (8 : Nat) (Option.some Jvm.ClassFile.FieldType.int)) ∈ lw_all := lw_g (lw_at lw_m5 201 rfl) rfl
theorem q1226 : (Jvm.Cond.instanceMethod ({ cls := "LoseLeagueModel", name := "swap", desc := "(II)I" } : Jvm.MethodName)) ∈ lw_all := lw_g (lw_at lw_m5 203 rfl) rfl
theorem q1227 : (Jvm.Cond.selects "LoseLeagueModel" ({ cls := "LoseLeagueModel", name := "swap", desc := "(II)I" } : Jvm.MethodName) ({ cls := "LoseLeagueModel", name := "swap", desc := "(II)I" } : Jvm.MethodName)) ∈ lw_all := lw_g (lw_at lw_m5 204 rfl) rfl
theorem q1228 : (Jvm.Cond.code ({ cls := "LoseLeagueModel", name := "swap", desc := "(II)I" } : Jvm.MethodName) prog_11_method_49_code (8 : Nat) (Option.some Jvm.ClassFile.FieldType.int)) ∈ lw_all := lw_g (lw_at lw_m5 205 rfl) rfl
theorem q1230 : (Jvm.Cond.instanceMethod ({ cls := "LoseLeagueModel", name := "skip", desc := "(II)I" } : Jvm.MethodName)) ∈ lw_all := lw_g (lw_at lw_m5 207 rfl) rfl
theorem q1231 : (Jvm.Cond.selects "LoseLeagueModel" ({ cls := "LoseLeagueModel", name := "skip", desc := "(II)I" } : Jvm.MethodName) ({ cls := "LoseLeagueModel", name := "skip", desc := "(II)I" } : Jvm.MethodName)) ∈ lw_all := lw_g (lw_at lw_m5 208 rfl) rfl
theorem q1232 : (Jvm.Cond.code ({ cls := "LoseLeagueModel", name := "skip", desc := "(II)I" } : Jvm.MethodName) prog_11_method_50_code (7 : Nat) (Option.some Jvm.ClassFile.FieldType.int)) ∈ lw_all := lw_g (lw_at lw_m5 209 rfl) rfl
theorem q1234 : (Jvm.Cond.instanceMethod ({ cls := "LoseLeagueModel", name := "most", desc := "(II)I" } : Jvm.MethodName)) ∈ lw_all := lw_g (lw_at lw_m5 211 rfl) rfl
theorem q1235 : (Jvm.Cond.selects "LoseLeagueModel" ({ cls := "LoseLeagueModel", name := "most", desc := "(II)I" } : Jvm.MethodName) ({ cls := "LoseLeagueModel", name := "most", desc := "(II)I" } : Jvm.MethodName)) ∈ lw_all := lw_g (lw_at lw_m5 212 rfl) rfl
theorem q1236 : (Jvm.Cond.code ({ cls := "LoseLeagueModel", name := "most", desc := "(II)I" } : Jvm.MethodName) prog_11_method_51_code (4 : Nat) (Option.some Jvm.ClassFile.FieldType.int)) ∈ lw_all := lw_g (lw_at lw_m5 213 rfl) rfl
theorem q1238 : (Jvm.Cond.instanceMethod ({ cls := "LoseLeagueModel", name := "kind", desc := "(III)I" } : Jvm.MethodName)) ∈ lw_all := lw_g (lw_at lw_m5 215 rfl) rfl
theorem q1239 : (Jvm.Cond.selects "LoseLeagueModel" ({ cls := "LoseLeagueModel", name := "kind", desc := "(III)I" } : Jvm.MethodName) ({ cls := "LoseLeagueModel", name := "kind", desc := "(III)I" } : Jvm.MethodName)) ∈ lw_all := lw_g (lw_at lw_m5 216 rfl) rfl
theorem q1240 : (Jvm.Cond.code ({ cls := "LoseLeagueModel", name := "kind", desc := "(III)I" } : Jvm.MethodName) prog_11_method_52_code (8 : Nat) (Option.some Jvm.ClassFile.FieldType.int)) ∈ lw_all := lw_g (lw_at lw_m5 217 rfl) rfl
theorem q1242 : (Jvm.Cond.instanceMethod ({ cls := "LoseLeagueModel", name := "luck", desc := "(IIII)J" } : Jvm.MethodName)) ∈ lw_all := lw_g (lw_at lw_m5 219 rfl) rfl
theorem q1243 : (Jvm.Cond.selects "LoseLeagueModel" ({ cls := "LoseLeagueModel", name := "luck", desc := "(IIII)J" } : Jvm.MethodName) ({ cls := "LoseLeagueModel", name := "luck", desc := "(IIII)J" } : Jvm.MethodName)) ∈ lw_all := lw_g (lw_at lw_m5 220 rfl) rfl
theorem q1244 : (Jvm.Cond.code ({ cls := "LoseLeagueModel", name := "luck", desc := "(IIII)J" } : Jvm.MethodName) prog_11_method_55_code (5 : Nat) (Option.some Jvm.ClassFile.FieldType.long)) ∈ lw_all := lw_g (lw_at lw_m5 221 rfl) rfl
theorem q1245 : (Jvm.Cond.constantLong "LoseLeagueModel" (221 : Nat) (8 : Int64)) ∈ lw_all := lw_g (lw_at lw_m5 222 rfl) rfl
theorem q1246 : (Jvm.Cond.methodLink "LoseLeagueModel" (223 : Nat) ({ cls := "LoseLeagueModel", name := "byRain", desc := "(IIII)J" } : Jvm.MethodName)) ∈ lw_all := lw_g (lw_at lw_m5 223 rfl) rfl
theorem q1247 : (Jvm.Cond.privateMethod ({ cls := "LoseLeagueModel", name := "byRain", desc := "(IIII)J" } : Jvm.MethodName)) ∈ lw_tbl := lw_at lw_m5 224 rfl
theorem q1248 : (Jvm.Cond.instanceMethod ({ cls := "LoseLeagueModel", name := "byRain", desc := "(IIII)J" } : Jvm.MethodName)) ∈ lw_all := lw_g (lw_at lw_m5 225 rfl) rfl
theorem q1249 : (Jvm.Cond.code ({ cls := "LoseLeagueModel", name := "byRain", desc := "(IIII)J" } : Jvm.MethodName) prog_11_method_54_code (15 : Nat) (Option.some Jvm.ClassFile.FieldType.long)) ∈ lw_all := lw_g (lw_at lw_m5 226 rfl) rfl
theorem q1250 : (Jvm.Cond.methodLink "LoseLeagueModel" (217 : Nat) ({ cls := "LoseLeagueModel", name := "lowest", desc := "(JJI)J" } : Jvm.MethodName)) ∈ lw_all := lw_g (lw_at lw_m5 227 rfl) rfl
theorem q1251 : (Jvm.Cond.static ({ cls := "LoseLeagueModel", name := "lowest", desc := "(JJI)J" } : Jvm.MethodName)) ∈ lw_all := lw_g (lw_at lw_m5 228 rfl) rfl
theorem q1252 : (Jvm.Cond.code ({ cls := "LoseLeagueModel", name := "lowest", desc := "(JJI)J" } : Jvm.MethodName) prog_11_method_53_code (11 : Nat) (Option.some Jvm.ClassFile.FieldType.long)) ∈ lw_all := lw_g (lw_at lw_m5 229 rfl) rfl
theorem q1253 : (Jvm.Cond.constantLong "LoseLeagueModel" (227 : Nat) (-1 : Int64)) ∈ lw_all := lw_g (lw_at lw_m5 230 rfl) rfl
theorem q1255 : (Jvm.Cond.instanceMethod ({ cls := "LoseLeagueModel", name := "mean", desc := "(III)J" } : Jvm.MethodName)) ∈ lw_all := lw_g (lw_at lw_m5 232 rfl) rfl
theorem q1256 : (Jvm.Cond.selects "LoseLeagueModel" ({ cls := "LoseLeagueModel", name := "mean", desc := "(III)J" } : Jvm.MethodName) ({ cls := "LoseLeagueModel", name := "mean", desc := "(III)J" } : Jvm.MethodName)) ∈ lw_all := lw_g (lw_at lw_m5 233 rfl) rfl
theorem q1257 : (Jvm.Cond.code ({ cls := "LoseLeagueModel", name := "mean", desc := "(III)J" } : Jvm.MethodName) prog_11_method_56_code (4 : Nat) (Option.some Jvm.ClassFile.FieldType.long)) ∈ lw_all := lw_g (lw_at lw_m5 234 rfl) rfl
theorem q1259 : (Jvm.Cond.instanceMethod ({ cls := "LoseLeagueModel", name := "see", desc := "(II)I" } : Jvm.MethodName)) ∈ lw_all := lw_g (lw_at lw_m5 236 rfl) rfl
theorem q1260 : (Jvm.Cond.selects "LoseLeagueModel" ({ cls := "LoseLeagueModel", name := "see", desc := "(II)I" } : Jvm.MethodName) ({ cls := "LoseLeagueModel", name := "see", desc := "(II)I" } : Jvm.MethodName)) ∈ lw_all := lw_g (lw_at lw_m5 237 rfl) rfl
theorem q1261 : (Jvm.Cond.code ({ cls := "LoseLeagueModel", name := "see", desc := "(II)I" } : Jvm.MethodName) prog_11_method_57_code (3 : Nat) (Option.some Jvm.ClassFile.FieldType.int)) ∈ lw_all := lw_g (lw_at lw_m5 238 rfl) rfl
theorem q1263 : (Jvm.Cond.instanceMethod ({ cls := "LoseLeagueModel", name := "forget", desc := "(I)I" } : Jvm.MethodName)) ∈ lw_all := lw_g (lw_at lw_m6 0 rfl) rfl
theorem q1264 : (Jvm.Cond.selects "LoseLeagueModel" ({ cls := "LoseLeagueModel", name := "forget", desc := "(I)I" } : Jvm.MethodName) ({ cls := "LoseLeagueModel", name := "forget", desc := "(I)I" } : Jvm.MethodName)) ∈ lw_all := lw_g (lw_at lw_m6 1 rfl) rfl
theorem q1265 : (Jvm.Cond.code ({ cls := "LoseLeagueModel", name := "forget", desc := "(I)I" } : Jvm.MethodName) prog_11_method_58_code (3 : Nat) (Option.some Jvm.ClassFile.FieldType.int)) ∈ lw_all := lw_g (lw_at lw_m6 2 rfl) rfl
theorem q1267 : (Jvm.Cond.instanceMethod ({ cls := "LoseLeagueModel", name := "kinds", desc := "(I)I" } : Jvm.MethodName)) ∈ lw_all := lw_g (lw_at lw_m6 4 rfl) rfl
theorem q1268 : (Jvm.Cond.selects "LoseLeagueModel" ({ cls := "LoseLeagueModel", name := "kinds", desc := "(I)I" } : Jvm.MethodName) ({ cls := "LoseLeagueModel", name := "kinds", desc := "(I)I" } : Jvm.MethodName)) ∈ lw_all := lw_g (lw_at lw_m6 5 rfl) rfl
theorem q1269 : (Jvm.Cond.code ({ cls := "LoseLeagueModel", name := "kinds", desc := "(I)I" } : Jvm.MethodName) prog_11_method_61_code (2 : Nat) (Option.some Jvm.ClassFile.FieldType.int)) ∈ lw_all := lw_g (lw_at lw_m6 6 rfl) rfl
theorem q1270 : (Jvm.Cond.methodLink "LoseLeagueModel" (232 : Nat) ({ cls := "LoseLeagueModel", name := "numbersAt", desc := "(II)I" } : Jvm.MethodName)) ∈ lw_all := lw_g (lw_at lw_m6 7 rfl) rfl
theorem q1271 : (Jvm.Cond.privateMethod ({ cls := "LoseLeagueModel", name := "numbersAt", desc := "(II)I" } : Jvm.MethodName)) ∈ lw_tbl := lw_at lw_m6 8 rfl
theorem q1272 : (Jvm.Cond.instanceMethod ({ cls := "LoseLeagueModel", name := "numbersAt", desc := "(II)I" } : Jvm.MethodName)) ∈ lw_all := lw_g (lw_at lw_m6 9 rfl) rfl
theorem q1273 : (Jvm.Cond.code ({ cls := "LoseLeagueModel", name := "numbersAt", desc := "(II)I" } : Jvm.MethodName) prog_11_method_60_code (6 : Nat) (Option.some Jvm.ClassFile.FieldType.int)) ∈ lw_all := lw_g (lw_at lw_m6 10 rfl) rfl
theorem q1274 : (Jvm.Cond.methodLink "LoseLeagueModel" (229 : Nat) ({ cls := "LoseLeagueModel", name := "isAsSeen", desc := "(I)Z" } : Jvm.MethodName)) ∈ lw_all := lw_g (lw_at lw_m6 11 rfl) rfl
theorem q1275 : (Jvm.Cond.privateMethod ({ cls := "LoseLeagueModel", name := "isAsSeen", desc := "(I)Z" } : Jvm.MethodName)) ∈ lw_tbl := lw_at lw_m6 12 rfl
theorem q1276 : (Jvm.Cond.instanceMethod ({ cls := "LoseLeagueModel", name := "isAsSeen", desc := "(I)Z" } : Jvm.MethodName)) ∈ lw_all := lw_g (lw_at lw_m6 13 rfl) rfl
theorem q1277 : (Jvm.Cond.code ({ cls := "LoseLeagueModel", name := "isAsSeen", desc := "(I)Z" } : Jvm.MethodName) prog_11_method_59_code (6 : Nat) (Option.some Jvm.ClassFile.FieldType.boolean)) ∈ lw_all := lw_g (lw_at lw_m6 14 rfl) rfl
theorem q1279 : (Jvm.Cond.instanceMethod ({ cls := "LoseLeagueModel", name := "strengths", desc := "(I)I" } : Jvm.MethodName)) ∈ lw_all := lw_g (lw_at lw_m6 16 rfl) rfl
theorem q1280 : (Jvm.Cond.selects "LoseLeagueModel" ({ cls := "LoseLeagueModel", name := "strengths", desc := "(I)I" } : Jvm.MethodName) ({ cls := "LoseLeagueModel", name := "strengths", desc := "(I)I" } : Jvm.MethodName)) ∈ lw_all := lw_g (lw_at lw_m6 17 rfl) rfl
theorem q1281 : (Jvm.Cond.code ({ cls := "LoseLeagueModel", name := "strengths", desc := "(I)I" } : Jvm.MethodName) prog_11_method_62_code (2 : Nat) (Option.some Jvm.ClassFile.FieldType.int)) ∈ lw_all := lw_g (lw_at lw_m6 18 rfl) rfl
theorem q1283 : (Jvm.Cond.instanceMethod ({ cls := "LoseLeagueModel", name := "ask", desc := "(II)I" } : Jvm.MethodName)) ∈ lw_all := lw_g (lw_at lw_m6 20 rfl) rfl
theorem q1284 : (Jvm.Cond.selects "LoseLeagueModel" ({ cls := "LoseLeagueModel", name := "ask", desc := "(II)I" } : Jvm.MethodName) ({ cls := "LoseLeagueModel", name := "ask", desc := "(II)I" } : Jvm.MethodName)) ∈ lw_all := lw_g (lw_at lw_m6 21 rfl) rfl
theorem q1285 : (Jvm.Cond.code ({ cls := "LoseLeagueModel", name := "ask", desc := "(II)I" } : Jvm.MethodName) prog_11_method_63_code (11 : Nat) (Option.some Jvm.ClassFile.FieldType.int)) ∈ lw_all := lw_g (lw_at lw_m6 22 rfl) rfl
theorem q1287 : (Jvm.Cond.instanceMethod ({ cls := "LoseLeagueModel", name := "drift", desc := "(III)I" } : Jvm.MethodName)) ∈ lw_all := lw_g (lw_at lw_m6 24 rfl) rfl
theorem q1288 : (Jvm.Cond.selects "LoseLeagueModel" ({ cls := "LoseLeagueModel", name := "drift", desc := "(III)I" } : Jvm.MethodName) ({ cls := "LoseLeagueModel", name := "drift", desc := "(III)I" } : Jvm.MethodName)) ∈ lw_all := lw_g (lw_at lw_m6 25 rfl) rfl
theorem q1289 : (Jvm.Cond.code ({ cls := "LoseLeagueModel", name := "drift", desc := "(III)I" } : Jvm.MethodName) prog_11_method_64_code (8 : Nat) (Option.some Jvm.ClassFile.FieldType.int)) ∈ lw_all := lw_g (lw_at lw_m6 26 rfl) rfl
theorem q1290 : (Jvm.Cond.constant "LoseLeagueModel" (235 : Nat) (1103515245 : Int32)) ∈ lw_all := lw_g (lw_at lw_m6 27 rfl) rfl
theorem q1292 : (Jvm.Cond.instanceMethod ({ cls := "LoseLeagueModel", name := "keep", desc := "(I)I" } : Jvm.MethodName)) ∈ lw_all := lw_g (lw_at lw_m6 29 rfl) rfl
theorem q1293 : (Jvm.Cond.selects "LoseLeagueModel" ({ cls := "LoseLeagueModel", name := "keep", desc := "(I)I" } : Jvm.MethodName) ({ cls := "LoseLeagueModel", name := "keep", desc := "(I)I" } : Jvm.MethodName)) ∈ lw_all := lw_g (lw_at lw_m6 30 rfl) rfl
theorem q1294 : (Jvm.Cond.code ({ cls := "LoseLeagueModel", name := "keep", desc := "(I)I" } : Jvm.MethodName) prog_11_method_65_code (3 : Nat) (Option.some Jvm.ClassFile.FieldType.int)) ∈ lw_all := lw_g (lw_at lw_m6 31 rfl) rfl
theorem q1296 : (Jvm.Cond.instanceMethod ({ cls := "LoseLeagueModel", name := "back", desc := "(I)I" } : Jvm.MethodName)) ∈ lw_all := lw_g (lw_at lw_m6 33 rfl) rfl
theorem q1297 : (Jvm.Cond.selects "LoseLeagueModel" ({ cls := "LoseLeagueModel", name := "back", desc := "(I)I" } : Jvm.MethodName) ({ cls := "LoseLeagueModel", name := "back", desc := "(I)I" } : Jvm.MethodName)) ∈ lw_all := lw_g (lw_at lw_m6 34 rfl) rfl
theorem q1298 : (Jvm.Cond.code ({ cls := "LoseLeagueModel", name := "back", desc := "(I)I" } : Jvm.MethodName) prog_11_method_66_code (2 : Nat) (Option.some Jvm.ClassFile.FieldType.int)) ∈ lw_all := lw_g (lw_at lw_m6 35 rfl) rfl
theorem q1300 : (Jvm.Cond.instanceMethod ({ cls := "LoseLeagueModel", name := "sheet", desc := "(III)I" } : Jvm.MethodName)) ∈ lw_all := lw_g (lw_at lw_m6 37 rfl) rfl
theorem q1301 : (Jvm.Cond.selects "LoseLeagueModel" ({ cls := "LoseLeagueModel", name := "sheet", desc := "(III)I" } : Jvm.MethodName) ({ cls := "LoseLeagueModel", name := "sheet", desc := "(III)I" } : Jvm.MethodName)) ∈ lw_all := lw_g (lw_at lw_m6 38 rfl) rfl
theorem q1302 : (Jvm.Cond.code ({ cls := "LoseLeagueModel", name := "sheet", desc := "(III)I" } : Jvm.MethodName) prog_11_method_67_code (5 : Nat) (Option.some Jvm.ClassFile.FieldType.int)) ∈ lw_all := lw_g (lw_at lw_m6 39 rfl) rfl
theorem q1304 : (Jvm.Cond.instanceMethod ({ cls := "LoseLeagueModel", name := "lay", desc := "(III)I" } : Jvm.MethodName)) ∈ lw_all := lw_g (lw_at lw_m6 41 rfl) rfl
theorem q1305 : (Jvm.Cond.selects "LoseLeagueModel" ({ cls := "LoseLeagueModel", name := "lay", desc := "(III)I" } : Jvm.MethodName) ({ cls := "LoseLeagueModel", name := "lay", desc := "(III)I" } : Jvm.MethodName)) ∈ lw_all := lw_g (lw_at lw_m6 42 rfl) rfl
theorem q1306 : (Jvm.Cond.code ({ cls := "LoseLeagueModel", name := "lay", desc := "(III)I" } : Jvm.MethodName) prog_11_method_68_code (4 : Nat) (Option.some Jvm.ClassFile.FieldType.int)) ∈ lw_all := lw_g (lw_at lw_m6 43 rfl) rfl
theorem q1308 : (Jvm.Cond.instanceMethod ({ cls := "LoseLeagueModel", name := "read", desc := "(IIII)I" } : Jvm.MethodName)) ∈ lw_all := lw_g (lw_at lw_m6 45 rfl) rfl
theorem q1309 : (Jvm.Cond.selects "LoseLeagueModel" ({ cls := "LoseLeagueModel", name := "read", desc := "(IIII)I" } : Jvm.MethodName) ({ cls := "LoseLeagueModel", name := "read", desc := "(IIII)I" } : Jvm.MethodName)) ∈ lw_all := lw_g (lw_at lw_m6 46 rfl) rfl
theorem q1310 : (Jvm.Cond.code ({ cls := "LoseLeagueModel", name := "read", desc := "(IIII)I" } : Jvm.MethodName) prog_11_method_69_code (9 : Nat) (Option.some Jvm.ClassFile.FieldType.int)) ∈ lw_all := lw_g (lw_at lw_m6 47 rfl) rfl
theorem q1312 : (Jvm.Cond.instanceMethod ({ cls := "LoseLeagueModel", name := "torn", desc := "()I" } : Jvm.MethodName)) ∈ lw_all := lw_g (lw_at lw_m6 49 rfl) rfl
theorem q1313 : (Jvm.Cond.selects "LoseLeagueModel" ({ cls := "LoseLeagueModel", name := "torn", desc := "()I" } : Jvm.MethodName) ({ cls := "LoseLeagueModel", name := "torn", desc := "()I" } : Jvm.MethodName)) ∈ lw_all := lw_g (lw_at lw_m6 50 rfl) rfl
theorem q1314 : (Jvm.Cond.code ({ cls := "LoseLeagueModel", name := "torn", desc := "()I" } : Jvm.MethodName) prog_11_method_70_code (1 : Nat) (Option.some Jvm.ClassFile.FieldType.int)) ∈ lw_all := lw_g (lw_at lw_m6 51 rfl) rfl
theorem q1316 : (Jvm.Cond.instanceMethod ({ cls := "LoseLeagueModel", name := "count", desc := "(I)I" } : Jvm.MethodName)) ∈ lw_all := lw_g (lw_at lw_m6 53 rfl) rfl
theorem q1317 : (Jvm.Cond.selects "LoseLeagueModel" ({ cls := "LoseLeagueModel", name := "count", desc := "(I)I" } : Jvm.MethodName) ({ cls := "LoseLeagueModel", name := "count", desc := "(I)I" } : Jvm.MethodName)) ∈ lw_all := lw_g (lw_at lw_m6 54 rfl) rfl
theorem q1318 : (Jvm.Cond.code ({ cls := "LoseLeagueModel", name := "count", desc := "(I)I" } : Jvm.MethodName) prog_11_method_71_code (5 : Nat) (Option.some Jvm.ClassFile.FieldType.int)) ∈ lw_all := lw_g (lw_at lw_m6 55 rfl) rfl
theorem in_X7 : ∀ w ∈ wsX70, w ∈ lw_all := lw_in wsX70 [968, 970, 972, 974, 976, 978, 980, 982, 984, 986, 988, 990, 992, 994, 996, 998, 1000, 1002, 1004, 1006, 1008, 1010, 1012, 1014, 1016, 1018, 1020, 1022, 1024] (by decide +kernel) (by decide +kernel)
