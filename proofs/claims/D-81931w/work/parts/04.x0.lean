/-! LadderCalls -/
set_option maxRecDepth 100000
def RX0 : String := "LadderCalls"
def TX0 : u_T := fun k => match k with
  | 0 => ("LadderCalls", "places", "I", false)
  | 1 => ("LadderCalls", "roadMany", "I", false)
  | 2 => ("LadderCalls", "from", "[I", true)
  | 3 => ("LadderCalls", "to", "[I", true)
  | 4 => ("LadderCalls", "length", "[I", true)
  | 5 => ("LadderCalls", "away", "[I", true)
  | 6 => ("LadderCalls", "trace", "J", false)
  | 7 => ("LadderCalls", "status", "I", false)
  | 8 => ("LadderCalls", "ladders", "I", false)
  | 9 => ("LadderCalls", "beginning", "I", false)
  | 10 => ("LadderCalls", "now", "I", false)
  | 11 => ("LadderCalls", "sum", "[I", true)
  | 12 => ("LadderCalls", "nextTurn", "I", false)
  | 13 => ("LadderCalls", "callMany", "I", false)
  | 14 => ("LadderCalls", "calledAt", "[I", true)
  | 15 => ("LadderCalls", "went", "[I", true)
  | 16 => ("LadderCalls", "far", "[I", true)
  | 17 => ("LadderCalls", "sentBy", "[I", true)
  | 18 => ("LadderCalls", "turnBefore", "[I", true)
  | 19 => ("LadderCalls", "rules", "[LLadderCalls$Near;", true)
  | 20 => ("LadderCalls", "rule", "LLadderCalls$Near;", false)
  | 21 => ("LadderCalls", "work", "[I", true)
  | 22 => ("LadderCalls", "nextWork", "[I", true)
  | 23 => ("LadderCalls", "rest", "[[I", true)
  | 24 => ("LadderCalls", "keptCalls", "[I", true)
  | 25 => ("LadderCalls", "keptWent", "[I", true)
  | 26 => ("LadderCalls", "keptFar", "[I", true)
  | 27 => ("LadderCalls", "keptBy", "[I", true)
  | 28 => ("LadderCalls", "keptTurn", "[I", true)
  | 29 => ("LadderCalls", "keptSum", "[I", true)
  | _ => ("LadderCalls", "books", "[LLadderCalls$Book;", true)
def tyX0 : Nat → FieldType := fun k => match k with
  | 0 => .int
  | 1 => .int
  | 2 => .array .int
  | 3 => .array .int
  | 4 => .array .int
  | 5 => .array .int
  | 6 => .long
  | 7 => .int
  | 8 => .int
  | 9 => .int
  | 10 => .int
  | 11 => .array .int
  | 12 => .int
  | 13 => .int
  | 14 => .array .int
  | 15 => .array .int
  | 16 => .array .int
  | 17 => .array .int
  | 18 => .array .int
  | 19 => .array (.object "LadderCalls$Near")
  | 20 => .object "LadderCalls$Near"
  | 21 => .array .int
  | 22 => .array .int
  | 23 => .array (.array .int)
  | 24 => .array .int
  | 25 => .array .int
  | 26 => .array .int
  | 27 => .array .int
  | 28 => .array .int
  | 29 => .array .int
  | _ => .array (.object "LadderCalls$Book")
abbrev wsX00 : List Cond := u_ws RX0 TX0 31
set_option maxRecDepth 100000 in
theorem nmX0 : ∀ a, a < 31 → ∀ b, b < 31 → a ≠ b → (TX0 a).2.1 ≠ (TX0 b).2.1 := by decide +kernel
set_option maxRecDepth 100000 in
theorem tyX0_ok : ∀ k, k < 31 → parseFieldDescriptor (TX0 k).2.2.1 = some (tyX0 k) := by decide +kernel
abbrev cX0_init : ByteArray := prog_1_method_1_code
def yX0_init : MethodName := ⟨RX0, "<init>", "()V"⟩
def dkwX0_init_9 : List UInt8 := [188, 10, 181, 0, 85, 42, 6, 188, 10, 181, 0, 88, 42, 6, 189, 0, 91, 181, 0, 93, 177]
abbrev dktX0_init_9 : List UInt8 := dkwX0_init_9 ++ []
def dkwX0_init_8 : List UInt8 := [188, 10, 181, 0, 76, 42, 16, 12, 188, 10, 181, 0, 79, 42, 16, 12, 188, 10, 181, 0, 82, 42, 16, 12]
abbrev dktX0_init_8 : List UInt8 := dkwX0_init_8 ++ dktX0_init_9
def dkwX0_init_7 : List UInt8 := [16, 13, 17, 2, 0, 197, 0, 68, 2, 181, 0, 70, 42, 16, 12, 188, 10, 181, 0, 73, 42, 16, 12]
abbrev dktX0_init_7 : List UInt8 := dkwX0_init_7 ++ dktX0_init_8
def dkwX0_init_6 : List UInt8 := [50, 181, 0, 58, 42, 17, 2, 0, 188, 10, 181, 0, 62, 42, 17, 2, 0, 188, 10, 181, 0, 65, 42]
abbrev dktX0_init_6 : List UInt8 := dkwX0_init_6 ++ dktX0_init_7
def dkwX0_init_5 : List UInt8 := [183, 0, 50, 83, 89, 6, 187, 0, 51, 89, 42, 183, 0, 53, 83, 181, 0, 54, 42, 42, 180, 0, 54, 3]
abbrev dktX0_init_5 : List UInt8 := dkwX0_init_5 ++ dktX0_init_6
def dkwX0_init_4 : List UInt8 := [42, 183, 0, 42, 83, 89, 4, 187, 0, 45, 89, 42, 183, 0, 47, 83, 89, 5, 187, 0, 48, 89, 42]
abbrev dktX0_init_4 : List UInt8 := dkwX0_init_4 ++ dktX0_init_5
def dkwX0_init_3 : List UInt8 := [188, 10, 181, 0, 34, 42, 16, 12, 188, 10, 181, 0, 37, 42, 7, 189, 0, 40, 89, 3, 187, 0, 40, 89]
abbrev dktX0_init_3 : List UInt8 := dkwX0_init_3 ++ dktX0_init_4
def dkwX0_init_2 : List UInt8 := [188, 10, 181, 0, 25, 42, 16, 12, 188, 10, 181, 0, 28, 42, 16, 12, 188, 10, 181, 0, 31, 42, 16, 12]
abbrev dktX0_init_2 : List UInt8 := dkwX0_init_2 ++ dktX0_init_3
def dkwX0_init_1 : List UInt8 := [188, 10, 181, 0, 16, 42, 16, 36, 188, 10, 181, 0, 19, 42, 6, 188, 10, 181, 0, 22, 42, 16, 12]
abbrev dktX0_init_1 : List UInt8 := dkwX0_init_1 ++ dktX0_init_2
def dkwX0_init_0 : List UInt8 := [42, 183, 0, 1, 42, 16, 15, 188, 10, 181, 0, 9, 42, 16, 15, 188, 10, 181, 0, 13, 42, 16, 15]
abbrev dktX0_init_0 : List UInt8 := dkwX0_init_0 ++ dktX0_init_1
theorem dksX0_init_0 : cX0_init.data.toList.drop 0 = dktX0_init_0 := by decide +kernel
theorem dksX0_init_1 : cX0_init.data.toList.drop 23 = dktX0_init_1 := dk_seg dksX0_init_0 23 rfl rfl
theorem dksX0_init_2 : cX0_init.data.toList.drop 46 = dktX0_init_2 := dk_seg dksX0_init_1 23 rfl rfl
theorem dksX0_init_3 : cX0_init.data.toList.drop 70 = dktX0_init_3 := dk_seg dksX0_init_2 24 rfl rfl
theorem dksX0_init_4 : cX0_init.data.toList.drop 94 = dktX0_init_4 := dk_seg dksX0_init_3 24 rfl rfl
theorem dksX0_init_5 : cX0_init.data.toList.drop 117 = dktX0_init_5 := dk_seg dksX0_init_4 23 rfl rfl
theorem dksX0_init_6 : cX0_init.data.toList.drop 141 = dktX0_init_6 := dk_seg dksX0_init_5 24 rfl rfl
theorem dksX0_init_7 : cX0_init.data.toList.drop 164 = dktX0_init_7 := dk_seg dksX0_init_6 23 rfl rfl
theorem dksX0_init_8 : cX0_init.data.toList.drop 187 = dktX0_init_8 := dk_seg dksX0_init_7 23 rfl rfl
theorem dksX0_init_9 : cX0_init.data.toList.drop 211 = dktX0_init_9 := dk_seg dksX0_init_8 24 rfl rfl
theorem dX0_init_0 : decode cX0_init 0 = .ok (.aload_n 0, 1) := dk_42 (dk_at dksX0_init_0 0 rfl rfl)
theorem dX0_init_1 : decode cX0_init 1 = .ok (.invokespecial 1, 3) := dk_183 0 1 (dk_at dksX0_init_0 1 rfl rfl)
theorem dX0_init_4 : decode cX0_init 4 = .ok (.aload_n 0, 1) := dk_42 (dk_at dksX0_init_0 4 rfl rfl)
theorem dX0_init_5 : decode cX0_init 5 = .ok (.bipush 15, 2) := dk_16 15 (dk_at dksX0_init_0 5 rfl rfl)
theorem dX0_init_7 : decode cX0_init 7 = .ok (.newarray .int, 2) := dk_188_10 (dk_at dksX0_init_0 7 rfl rfl)
theorem dX0_init_9 : decode cX0_init 9 = .ok (.putfield 9, 3) := dk_181 0 9 (dk_at dksX0_init_0 9 rfl rfl)
theorem dX0_init_12 : decode cX0_init 12 = .ok (.aload_n 0, 1) := dk_42 (dk_at dksX0_init_0 12 rfl rfl)
theorem dX0_init_13 : decode cX0_init 13 = .ok (.bipush 15, 2) := dk_16 15 (dk_at dksX0_init_0 13 rfl rfl)
theorem dX0_init_15 : decode cX0_init 15 = .ok (.newarray .int, 2) := dk_188_10 (dk_at dksX0_init_0 15 rfl rfl)
theorem dX0_init_17 : decode cX0_init 17 = .ok (.putfield 13, 3) := dk_181 0 13 (dk_at dksX0_init_0 17 rfl rfl)
theorem dX0_init_20 : decode cX0_init 20 = .ok (.aload_n 0, 1) := dk_42 (dk_at dksX0_init_0 20 rfl rfl)
theorem dX0_init_21 : decode cX0_init 21 = .ok (.bipush 15, 2) := dk_16 15 (dk_at dksX0_init_0 21 rfl rfl)
theorem dX0_init_23 : decode cX0_init 23 = .ok (.newarray .int, 2) := dk_188_10 (dk_at dksX0_init_1 0 rfl rfl)
theorem dX0_init_25 : decode cX0_init 25 = .ok (.putfield 16, 3) := dk_181 0 16 (dk_at dksX0_init_1 2 rfl rfl)
theorem dX0_init_28 : decode cX0_init 28 = .ok (.aload_n 0, 1) := dk_42 (dk_at dksX0_init_1 5 rfl rfl)
theorem dX0_init_29 : decode cX0_init 29 = .ok (.bipush 36, 2) := dk_16 36 (dk_at dksX0_init_1 6 rfl rfl)
theorem dX0_init_31 : decode cX0_init 31 = .ok (.newarray .int, 2) := dk_188_10 (dk_at dksX0_init_1 8 rfl rfl)
theorem dX0_init_33 : decode cX0_init 33 = .ok (.putfield 19, 3) := dk_181 0 19 (dk_at dksX0_init_1 10 rfl rfl)
theorem dX0_init_36 : decode cX0_init 36 = .ok (.aload_n 0, 1) := dk_42 (dk_at dksX0_init_1 13 rfl rfl)
theorem dX0_init_37 : decode cX0_init 37 = .ok (.iconst 3, 1) := dk_6 (dk_at dksX0_init_1 14 rfl rfl)
theorem dX0_init_38 : decode cX0_init 38 = .ok (.newarray .int, 2) := dk_188_10 (dk_at dksX0_init_1 15 rfl rfl)
theorem dX0_init_40 : decode cX0_init 40 = .ok (.putfield 22, 3) := dk_181 0 22 (dk_at dksX0_init_1 17 rfl rfl)
theorem dX0_init_43 : decode cX0_init 43 = .ok (.aload_n 0, 1) := dk_42 (dk_at dksX0_init_1 20 rfl rfl)
theorem dX0_init_44 : decode cX0_init 44 = .ok (.bipush 12, 2) := dk_16 12 (dk_at dksX0_init_1 21 rfl rfl)
theorem dX0_init_46 : decode cX0_init 46 = .ok (.newarray .int, 2) := dk_188_10 (dk_at dksX0_init_2 0 rfl rfl)
theorem dX0_init_48 : decode cX0_init 48 = .ok (.putfield 25, 3) := dk_181 0 25 (dk_at dksX0_init_2 2 rfl rfl)
theorem dX0_init_51 : decode cX0_init 51 = .ok (.aload_n 0, 1) := dk_42 (dk_at dksX0_init_2 5 rfl rfl)
theorem dX0_init_52 : decode cX0_init 52 = .ok (.bipush 12, 2) := dk_16 12 (dk_at dksX0_init_2 6 rfl rfl)
theorem dX0_init_54 : decode cX0_init 54 = .ok (.newarray .int, 2) := dk_188_10 (dk_at dksX0_init_2 8 rfl rfl)
theorem dX0_init_56 : decode cX0_init 56 = .ok (.putfield 28, 3) := dk_181 0 28 (dk_at dksX0_init_2 10 rfl rfl)
theorem dX0_init_59 : decode cX0_init 59 = .ok (.aload_n 0, 1) := dk_42 (dk_at dksX0_init_2 13 rfl rfl)
theorem dX0_init_60 : decode cX0_init 60 = .ok (.bipush 12, 2) := dk_16 12 (dk_at dksX0_init_2 14 rfl rfl)
theorem dX0_init_62 : decode cX0_init 62 = .ok (.newarray .int, 2) := dk_188_10 (dk_at dksX0_init_2 16 rfl rfl)
theorem dX0_init_64 : decode cX0_init 64 = .ok (.putfield 31, 3) := dk_181 0 31 (dk_at dksX0_init_2 18 rfl rfl)
theorem dX0_init_67 : decode cX0_init 67 = .ok (.aload_n 0, 1) := dk_42 (dk_at dksX0_init_2 21 rfl rfl)
theorem dX0_init_68 : decode cX0_init 68 = .ok (.bipush 12, 2) := dk_16 12 (dk_at dksX0_init_2 22 rfl rfl)
theorem dX0_init_70 : decode cX0_init 70 = .ok (.newarray .int, 2) := dk_188_10 (dk_at dksX0_init_3 0 rfl rfl)
theorem dX0_init_72 : decode cX0_init 72 = .ok (.putfield 34, 3) := dk_181 0 34 (dk_at dksX0_init_3 2 rfl rfl)
theorem dX0_init_75 : decode cX0_init 75 = .ok (.aload_n 0, 1) := dk_42 (dk_at dksX0_init_3 5 rfl rfl)
theorem dX0_init_76 : decode cX0_init 76 = .ok (.bipush 12, 2) := dk_16 12 (dk_at dksX0_init_3 6 rfl rfl)
theorem dX0_init_78 : decode cX0_init 78 = .ok (.newarray .int, 2) := dk_188_10 (dk_at dksX0_init_3 8 rfl rfl)
theorem dX0_init_80 : decode cX0_init 80 = .ok (.putfield 37, 3) := dk_181 0 37 (dk_at dksX0_init_3 10 rfl rfl)
theorem dX0_init_83 : decode cX0_init 83 = .ok (.aload_n 0, 1) := dk_42 (dk_at dksX0_init_3 13 rfl rfl)
theorem dX0_init_84 : decode cX0_init 84 = .ok (.iconst 4, 1) := dk_7 (dk_at dksX0_init_3 14 rfl rfl)
theorem dX0_init_85 : decode cX0_init 85 = .ok (.anewarray 40, 3) := dk_189 0 40 (dk_at dksX0_init_3 15 rfl rfl)
theorem dX0_init_88 : decode cX0_init 88 = .ok (.dup, 1) := dk_89 (dk_at dksX0_init_3 18 rfl rfl)
theorem dX0_init_89 : decode cX0_init 89 = .ok (.iconst 0, 1) := dk_3 (dk_at dksX0_init_3 19 rfl rfl)
theorem dX0_init_90 : decode cX0_init 90 = .ok (.new 40, 3) := dk_187 0 40 (dk_at dksX0_init_3 20 rfl rfl)
theorem dX0_init_93 : decode cX0_init 93 = .ok (.dup, 1) := dk_89 (dk_at dksX0_init_3 23 rfl rfl)
theorem dX0_init_94 : decode cX0_init 94 = .ok (.aload_n 0, 1) := dk_42 (dk_at dksX0_init_4 0 rfl rfl)
theorem dX0_init_95 : decode cX0_init 95 = .ok (.invokespecial 42, 3) := dk_183 0 42 (dk_at dksX0_init_4 1 rfl rfl)
theorem dX0_init_98 : decode cX0_init 98 = .ok (.aastore, 1) := dk_83 (dk_at dksX0_init_4 4 rfl rfl)
theorem dX0_init_99 : decode cX0_init 99 = .ok (.dup, 1) := dk_89 (dk_at dksX0_init_4 5 rfl rfl)
theorem dX0_init_100 : decode cX0_init 100 = .ok (.iconst 1, 1) := dk_4 (dk_at dksX0_init_4 6 rfl rfl)
theorem dX0_init_101 : decode cX0_init 101 = .ok (.new 45, 3) := dk_187 0 45 (dk_at dksX0_init_4 7 rfl rfl)
theorem dX0_init_104 : decode cX0_init 104 = .ok (.dup, 1) := dk_89 (dk_at dksX0_init_4 10 rfl rfl)
theorem dX0_init_105 : decode cX0_init 105 = .ok (.aload_n 0, 1) := dk_42 (dk_at dksX0_init_4 11 rfl rfl)
theorem dX0_init_106 : decode cX0_init 106 = .ok (.invokespecial 47, 3) := dk_183 0 47 (dk_at dksX0_init_4 12 rfl rfl)
theorem dX0_init_109 : decode cX0_init 109 = .ok (.aastore, 1) := dk_83 (dk_at dksX0_init_4 15 rfl rfl)
theorem dX0_init_110 : decode cX0_init 110 = .ok (.dup, 1) := dk_89 (dk_at dksX0_init_4 16 rfl rfl)
theorem dX0_init_111 : decode cX0_init 111 = .ok (.iconst 2, 1) := dk_5 (dk_at dksX0_init_4 17 rfl rfl)
theorem dX0_init_112 : decode cX0_init 112 = .ok (.new 48, 3) := dk_187 0 48 (dk_at dksX0_init_4 18 rfl rfl)
theorem dX0_init_115 : decode cX0_init 115 = .ok (.dup, 1) := dk_89 (dk_at dksX0_init_4 21 rfl rfl)
theorem dX0_init_116 : decode cX0_init 116 = .ok (.aload_n 0, 1) := dk_42 (dk_at dksX0_init_4 22 rfl rfl)
theorem dX0_init_117 : decode cX0_init 117 = .ok (.invokespecial 50, 3) := dk_183 0 50 (dk_at dksX0_init_5 0 rfl rfl)
theorem dX0_init_120 : decode cX0_init 120 = .ok (.aastore, 1) := dk_83 (dk_at dksX0_init_5 3 rfl rfl)
theorem dX0_init_121 : decode cX0_init 121 = .ok (.dup, 1) := dk_89 (dk_at dksX0_init_5 4 rfl rfl)
theorem dX0_init_122 : decode cX0_init 122 = .ok (.iconst 3, 1) := dk_6 (dk_at dksX0_init_5 5 rfl rfl)
theorem dX0_init_123 : decode cX0_init 123 = .ok (.new 51, 3) := dk_187 0 51 (dk_at dksX0_init_5 6 rfl rfl)
theorem dX0_init_126 : decode cX0_init 126 = .ok (.dup, 1) := dk_89 (dk_at dksX0_init_5 9 rfl rfl)
theorem dX0_init_127 : decode cX0_init 127 = .ok (.aload_n 0, 1) := dk_42 (dk_at dksX0_init_5 10 rfl rfl)
theorem dX0_init_128 : decode cX0_init 128 = .ok (.invokespecial 53, 3) := dk_183 0 53 (dk_at dksX0_init_5 11 rfl rfl)
theorem dX0_init_131 : decode cX0_init 131 = .ok (.aastore, 1) := dk_83 (dk_at dksX0_init_5 14 rfl rfl)
theorem dX0_init_132 : decode cX0_init 132 = .ok (.putfield 54, 3) := dk_181 0 54 (dk_at dksX0_init_5 15 rfl rfl)
theorem dX0_init_135 : decode cX0_init 135 = .ok (.aload_n 0, 1) := dk_42 (dk_at dksX0_init_5 18 rfl rfl)
theorem dX0_init_136 : decode cX0_init 136 = .ok (.aload_n 0, 1) := dk_42 (dk_at dksX0_init_5 19 rfl rfl)
theorem dX0_init_137 : decode cX0_init 137 = .ok (.getfield 54, 3) := dk_180 0 54 (dk_at dksX0_init_5 20 rfl rfl)
theorem dX0_init_140 : decode cX0_init 140 = .ok (.iconst 0, 1) := dk_3 (dk_at dksX0_init_5 23 rfl rfl)
theorem dX0_init_141 : decode cX0_init 141 = .ok (.aaload, 1) := dk_50 (dk_at dksX0_init_6 0 rfl rfl)
theorem dX0_init_142 : decode cX0_init 142 = .ok (.putfield 58, 3) := dk_181 0 58 (dk_at dksX0_init_6 1 rfl rfl)
theorem dX0_init_145 : decode cX0_init 145 = .ok (.aload_n 0, 1) := dk_42 (dk_at dksX0_init_6 4 rfl rfl)
theorem dX0_init_146 : decode cX0_init 146 = .ok (.sipush 512, 3) := dk_17 2 0 (dk_at dksX0_init_6 5 rfl rfl)
theorem dX0_init_149 : decode cX0_init 149 = .ok (.newarray .int, 2) := dk_188_10 (dk_at dksX0_init_6 8 rfl rfl)
theorem dX0_init_151 : decode cX0_init 151 = .ok (.putfield 62, 3) := dk_181 0 62 (dk_at dksX0_init_6 10 rfl rfl)
theorem dX0_init_154 : decode cX0_init 154 = .ok (.aload_n 0, 1) := dk_42 (dk_at dksX0_init_6 13 rfl rfl)
theorem dX0_init_155 : decode cX0_init 155 = .ok (.sipush 512, 3) := dk_17 2 0 (dk_at dksX0_init_6 14 rfl rfl)
theorem dX0_init_158 : decode cX0_init 158 = .ok (.newarray .int, 2) := dk_188_10 (dk_at dksX0_init_6 17 rfl rfl)
theorem dX0_init_160 : decode cX0_init 160 = .ok (.putfield 65, 3) := dk_181 0 65 (dk_at dksX0_init_6 19 rfl rfl)
theorem dX0_init_163 : decode cX0_init 163 = .ok (.aload_n 0, 1) := dk_42 (dk_at dksX0_init_6 22 rfl rfl)
theorem dX0_init_164 : decode cX0_init 164 = .ok (.bipush 13, 2) := dk_16 13 (dk_at dksX0_init_7 0 rfl rfl)
theorem dX0_init_166 : decode cX0_init 166 = .ok (.sipush 512, 3) := dk_17 2 0 (dk_at dksX0_init_7 2 rfl rfl)
theorem dX0_init_169 : decode cX0_init 169 = .ok (.multianewarray 68 2, 4) := by decide +kernel
theorem dX0_init_173 : decode cX0_init 173 = .ok (.putfield 70, 3) := dk_181 0 70 (dk_at dksX0_init_7 9 rfl rfl)
theorem dX0_init_176 : decode cX0_init 176 = .ok (.aload_n 0, 1) := dk_42 (dk_at dksX0_init_7 12 rfl rfl)
theorem dX0_init_177 : decode cX0_init 177 = .ok (.bipush 12, 2) := dk_16 12 (dk_at dksX0_init_7 13 rfl rfl)
theorem dX0_init_179 : decode cX0_init 179 = .ok (.newarray .int, 2) := dk_188_10 (dk_at dksX0_init_7 15 rfl rfl)
theorem dX0_init_181 : decode cX0_init 181 = .ok (.putfield 73, 3) := dk_181 0 73 (dk_at dksX0_init_7 17 rfl rfl)
theorem dX0_init_184 : decode cX0_init 184 = .ok (.aload_n 0, 1) := dk_42 (dk_at dksX0_init_7 20 rfl rfl)
theorem dX0_init_185 : decode cX0_init 185 = .ok (.bipush 12, 2) := dk_16 12 (dk_at dksX0_init_7 21 rfl rfl)
theorem dX0_init_187 : decode cX0_init 187 = .ok (.newarray .int, 2) := dk_188_10 (dk_at dksX0_init_8 0 rfl rfl)
theorem dX0_init_189 : decode cX0_init 189 = .ok (.putfield 76, 3) := dk_181 0 76 (dk_at dksX0_init_8 2 rfl rfl)
theorem dX0_init_192 : decode cX0_init 192 = .ok (.aload_n 0, 1) := dk_42 (dk_at dksX0_init_8 5 rfl rfl)
theorem dX0_init_193 : decode cX0_init 193 = .ok (.bipush 12, 2) := dk_16 12 (dk_at dksX0_init_8 6 rfl rfl)
theorem dX0_init_195 : decode cX0_init 195 = .ok (.newarray .int, 2) := dk_188_10 (dk_at dksX0_init_8 8 rfl rfl)
theorem dX0_init_197 : decode cX0_init 197 = .ok (.putfield 79, 3) := dk_181 0 79 (dk_at dksX0_init_8 10 rfl rfl)
theorem dX0_init_200 : decode cX0_init 200 = .ok (.aload_n 0, 1) := dk_42 (dk_at dksX0_init_8 13 rfl rfl)
theorem dX0_init_201 : decode cX0_init 201 = .ok (.bipush 12, 2) := dk_16 12 (dk_at dksX0_init_8 14 rfl rfl)
theorem dX0_init_203 : decode cX0_init 203 = .ok (.newarray .int, 2) := dk_188_10 (dk_at dksX0_init_8 16 rfl rfl)
theorem dX0_init_205 : decode cX0_init 205 = .ok (.putfield 82, 3) := dk_181 0 82 (dk_at dksX0_init_8 18 rfl rfl)
theorem dX0_init_208 : decode cX0_init 208 = .ok (.aload_n 0, 1) := dk_42 (dk_at dksX0_init_8 21 rfl rfl)
theorem dX0_init_209 : decode cX0_init 209 = .ok (.bipush 12, 2) := dk_16 12 (dk_at dksX0_init_8 22 rfl rfl)
theorem dX0_init_211 : decode cX0_init 211 = .ok (.newarray .int, 2) := dk_188_10 (dk_at dksX0_init_9 0 rfl rfl)
theorem dX0_init_213 : decode cX0_init 213 = .ok (.putfield 85, 3) := dk_181 0 85 (dk_at dksX0_init_9 2 rfl rfl)
theorem dX0_init_216 : decode cX0_init 216 = .ok (.aload_n 0, 1) := dk_42 (dk_at dksX0_init_9 5 rfl rfl)
theorem dX0_init_217 : decode cX0_init 217 = .ok (.iconst 3, 1) := dk_6 (dk_at dksX0_init_9 6 rfl rfl)
theorem dX0_init_218 : decode cX0_init 218 = .ok (.newarray .int, 2) := dk_188_10 (dk_at dksX0_init_9 7 rfl rfl)
theorem dX0_init_220 : decode cX0_init 220 = .ok (.putfield 88, 3) := dk_181 0 88 (dk_at dksX0_init_9 9 rfl rfl)
theorem dX0_init_223 : decode cX0_init 223 = .ok (.aload_n 0, 1) := dk_42 (dk_at dksX0_init_9 12 rfl rfl)
theorem dX0_init_224 : decode cX0_init 224 = .ok (.iconst 3, 1) := dk_6 (dk_at dksX0_init_9 13 rfl rfl)
theorem dX0_init_225 : decode cX0_init 225 = .ok (.anewarray 91, 3) := dk_189 0 91 (dk_at dksX0_init_9 14 rfl rfl)
theorem dX0_init_228 : decode cX0_init 228 = .ok (.putfield 93, 3) := dk_181 0 93 (dk_at dksX0_init_9 17 rfl rfl)
theorem dX0_init_231 : decode cX0_init 231 = .ok (.return_, 1) := dk_177 (dk_at dksX0_init_9 20 rfl rfl)
abbrev cX0_place : ByteArray := prog_1_method_7_code
def yX0_place : MethodName := ⟨RX0, "place", "()I"⟩
def dkwX0_place_1 : List UInt8 := [180, 0, 97, 4, 96, 181, 0, 97, 42, 182, 0, 121, 42, 180, 0, 97, 4, 100, 172]
abbrev dktX0_place_1 : List UInt8 := dkwX0_place_1 ++ []
def dkwX0_place_0 : List UInt8 := [42, 180, 0, 118, 158, 0, 6, 16, 254, 172, 42, 180, 0, 97, 16, 6, 160, 0, 6, 16, 253, 172, 42, 89]
abbrev dktX0_place_0 : List UInt8 := dkwX0_place_0 ++ dktX0_place_1
theorem dksX0_place_0 : cX0_place.data.toList.drop 0 = dktX0_place_0 := by decide +kernel
theorem dksX0_place_1 : cX0_place.data.toList.drop 24 = dktX0_place_1 := dk_seg dksX0_place_0 24 rfl rfl
theorem dX0_place_0 : decode cX0_place 0 = .ok (.aload_n 0, 1) := dk_42 (dk_at dksX0_place_0 0 rfl rfl)
theorem dX0_place_1 : decode cX0_place 1 = .ok (.getfield 118, 3) := dk_180 0 118 (dk_at dksX0_place_0 1 rfl rfl)
theorem dX0_place_4 : decode cX0_place 4 = .ok (.ifCond .le 6, 3) := dk_158 0 6 (dk_at dksX0_place_0 4 rfl rfl)
theorem dX0_place_7 : decode cX0_place 7 = .ok (.bipush (-2), 2) := dk_16 254 (dk_at dksX0_place_0 7 rfl rfl)
theorem dX0_place_9 : decode cX0_place 9 = .ok (.ireturn, 1) := dk_172 (dk_at dksX0_place_0 9 rfl rfl)
theorem dX0_place_10 : decode cX0_place 10 = .ok (.aload_n 0, 1) := dk_42 (dk_at dksX0_place_0 10 rfl rfl)
theorem dX0_place_11 : decode cX0_place 11 = .ok (.getfield 97, 3) := dk_180 0 97 (dk_at dksX0_place_0 11 rfl rfl)
theorem dX0_place_14 : decode cX0_place 14 = .ok (.bipush 6, 2) := dk_16 6 (dk_at dksX0_place_0 14 rfl rfl)
theorem dX0_place_16 : decode cX0_place 16 = .ok (.if_icmp .ne 6, 3) := dk_160 0 6 (dk_at dksX0_place_0 16 rfl rfl)
theorem dX0_place_19 : decode cX0_place 19 = .ok (.bipush (-3), 2) := dk_16 253 (dk_at dksX0_place_0 19 rfl rfl)
theorem dX0_place_21 : decode cX0_place 21 = .ok (.ireturn, 1) := dk_172 (dk_at dksX0_place_0 21 rfl rfl)
theorem dX0_place_22 : decode cX0_place 22 = .ok (.aload_n 0, 1) := dk_42 (dk_at dksX0_place_0 22 rfl rfl)
theorem dX0_place_23 : decode cX0_place 23 = .ok (.dup, 1) := dk_89 (dk_at dksX0_place_0 23 rfl rfl)
theorem dX0_place_24 : decode cX0_place 24 = .ok (.getfield 97, 3) := dk_180 0 97 (dk_at dksX0_place_1 0 rfl rfl)
theorem dX0_place_27 : decode cX0_place 27 = .ok (.iconst 1, 1) := dk_4 (dk_at dksX0_place_1 3 rfl rfl)
theorem dX0_place_28 : decode cX0_place 28 = .ok (.iadd, 1) := dk_96 (dk_at dksX0_place_1 4 rfl rfl)
theorem dX0_place_29 : decode cX0_place 29 = .ok (.putfield 97, 3) := dk_181 0 97 (dk_at dksX0_place_1 5 rfl rfl)
theorem dX0_place_32 : decode cX0_place 32 = .ok (.aload_n 0, 1) := dk_42 (dk_at dksX0_place_1 8 rfl rfl)
theorem dX0_place_33 : decode cX0_place 33 = .ok (.invokevirtual 121, 3) := dk_182 0 121 (dk_at dksX0_place_1 9 rfl rfl)
theorem dX0_place_36 : decode cX0_place 36 = .ok (.aload_n 0, 1) := dk_42 (dk_at dksX0_place_1 12 rfl rfl)
theorem dX0_place_37 : decode cX0_place 37 = .ok (.getfield 97, 3) := dk_180 0 97 (dk_at dksX0_place_1 13 rfl rfl)
theorem dX0_place_40 : decode cX0_place 40 = .ok (.iconst 1, 1) := dk_4 (dk_at dksX0_place_1 16 rfl rfl)
theorem dX0_place_41 : decode cX0_place 41 = .ok (.isub, 1) := dk_100 (dk_at dksX0_place_1 17 rfl rfl)
theorem dX0_place_42 : decode cX0_place 42 = .ok (.ireturn, 1) := dk_172 (dk_at dksX0_place_1 18 rfl rfl)
abbrev cX0_measure : ByteArray := prog_1_method_4_code
def yX0_measure : MethodName := ⟨RX0, "measure", "()V"⟩
def dkwX0_measure_10 : List UInt8 := [132, 1, 1, 167, 255, 165, 177]
abbrev dktX0_measure_10 : List UInt8 := dkwX0_measure_10 ++ []
def dkwX0_measure_9 : List UInt8 := [27, 104, 29, 96, 46, 96, 184, 0, 109, 79, 132, 3, 1, 167, 255, 197, 132, 2, 1, 167, 255, 181]
abbrev dktX0_measure_9 : List UInt8 := dkwX0_measure_9 ++ dktX0_measure_10
def dkwX0_measure_8 : List UInt8 := [16, 6, 28, 104, 29, 96, 46, 42, 180, 0, 19, 16, 6, 28, 104, 27, 96, 46, 42, 180, 0, 19, 16, 6]
abbrev dktX0_measure_8 : List UInt8 := dkwX0_measure_8 ++ dktX0_measure_9
def dkwX0_measure_7 : List UInt8 := [62, 29, 42, 180, 0, 97, 162, 0, 57, 42, 180, 0, 19, 16, 6, 28, 104, 29, 96, 42, 180, 0, 19]
abbrev dktX0_measure_7 : List UInt8 := dkwX0_measure_7 ++ dktX0_measure_8
def dkwX0_measure_6 : List UInt8 := [167, 255, 170, 3, 60, 27, 42, 180, 0, 97, 162, 0, 89, 3, 61, 28, 42, 180, 0, 97, 162, 0, 73, 3]
abbrev dktX0_measure_6 : List UInt8 := dkwX0_measure_6 ++ dktX0_measure_7
def dkwX0_measure_5 : List UInt8 := [180, 0, 19, 16, 6, 42, 180, 0, 13, 27, 46, 104, 42, 180, 0, 9, 27, 46, 96, 28, 79, 132, 1, 1]
abbrev dktX0_measure_5 : List UInt8 := dkwX0_measure_5 ++ dktX0_measure_6
def dkwX0_measure_4 : List UInt8 := [42, 180, 0, 19, 16, 6, 42, 180, 0, 9, 27, 46, 104, 42, 180, 0, 13, 27, 46, 96, 28, 79, 42]
abbrev dktX0_measure_4 : List UInt8 := dkwX0_measure_4 ++ dktX0_measure_5
def dkwX0_measure_3 : List UInt8 := [180, 0, 19, 16, 6, 42, 180, 0, 9, 27, 46, 104, 42, 180, 0, 13, 27, 46, 96, 46, 184, 0, 109, 61]
abbrev dktX0_measure_3 : List UInt8 := dkwX0_measure_3 ++ dktX0_measure_4
def dkwX0_measure_2 : List UInt8 := [132, 1, 1, 167, 255, 207, 3, 60, 27, 42, 180, 0, 106, 162, 0, 84, 42, 180, 0, 16, 27, 46, 42]
abbrev dktX0_measure_2 : List UInt8 := dkwX0_measure_2 ++ dktX0_measure_3
def dkwX0_measure_1 : List UInt8 := [16, 6, 27, 104, 28, 96, 27, 28, 160, 0, 7, 3, 167, 0, 5, 18, 105, 79, 132, 2, 1, 167, 255, 223]
abbrev dktX0_measure_1 : List UInt8 := dkwX0_measure_1 ++ dktX0_measure_2
def dkwX0_measure_0 : List UInt8 := [3, 60, 27, 42, 180, 0, 97, 162, 0, 47, 3, 61, 28, 42, 180, 0, 97, 162, 0, 31, 42, 180, 0, 19]
abbrev dktX0_measure_0 : List UInt8 := dkwX0_measure_0 ++ dktX0_measure_1
theorem dksX0_measure_0 : cX0_measure.data.toList.drop 0 = dktX0_measure_0 := by decide +kernel
theorem dksX0_measure_1 : cX0_measure.data.toList.drop 24 = dktX0_measure_1 := dk_seg dksX0_measure_0 24 rfl rfl
theorem dksX0_measure_2 : cX0_measure.data.toList.drop 48 = dktX0_measure_2 := dk_seg dksX0_measure_1 24 rfl rfl
theorem dksX0_measure_3 : cX0_measure.data.toList.drop 71 = dktX0_measure_3 := dk_seg dksX0_measure_2 23 rfl rfl
theorem dksX0_measure_4 : cX0_measure.data.toList.drop 95 = dktX0_measure_4 := dk_seg dksX0_measure_3 24 rfl rfl
theorem dksX0_measure_5 : cX0_measure.data.toList.drop 118 = dktX0_measure_5 := dk_seg dksX0_measure_4 23 rfl rfl
theorem dksX0_measure_6 : cX0_measure.data.toList.drop 142 = dktX0_measure_6 := dk_seg dksX0_measure_5 24 rfl rfl
theorem dksX0_measure_7 : cX0_measure.data.toList.drop 166 = dktX0_measure_7 := dk_seg dksX0_measure_6 24 rfl rfl
theorem dksX0_measure_8 : cX0_measure.data.toList.drop 189 = dktX0_measure_8 := dk_seg dksX0_measure_7 23 rfl rfl
theorem dksX0_measure_9 : cX0_measure.data.toList.drop 213 = dktX0_measure_9 := dk_seg dksX0_measure_8 24 rfl rfl
theorem dksX0_measure_10 : cX0_measure.data.toList.drop 235 = dktX0_measure_10 := dk_seg dksX0_measure_9 22 rfl rfl
theorem dX0_measure_0 : decode cX0_measure 0 = .ok (.iconst 0, 1) := dk_3 (dk_at dksX0_measure_0 0 rfl rfl)
theorem dX0_measure_1 : decode cX0_measure 1 = .ok (.istore_n 1, 1) := dk_60 (dk_at dksX0_measure_0 1 rfl rfl)
theorem dX0_measure_2 : decode cX0_measure 2 = .ok (.iload_n 1, 1) := dk_27 (dk_at dksX0_measure_0 2 rfl rfl)
theorem dX0_measure_3 : decode cX0_measure 3 = .ok (.aload_n 0, 1) := dk_42 (dk_at dksX0_measure_0 3 rfl rfl)
theorem dX0_measure_4 : decode cX0_measure 4 = .ok (.getfield 97, 3) := dk_180 0 97 (dk_at dksX0_measure_0 4 rfl rfl)
theorem dX0_measure_7 : decode cX0_measure 7 = .ok (.if_icmp .ge 47, 3) := dk_162 0 47 (dk_at dksX0_measure_0 7 rfl rfl)
theorem dX0_measure_10 : decode cX0_measure 10 = .ok (.iconst 0, 1) := dk_3 (dk_at dksX0_measure_0 10 rfl rfl)
theorem dX0_measure_11 : decode cX0_measure 11 = .ok (.istore_n 2, 1) := dk_61 (dk_at dksX0_measure_0 11 rfl rfl)
theorem dX0_measure_12 : decode cX0_measure 12 = .ok (.iload_n 2, 1) := dk_28 (dk_at dksX0_measure_0 12 rfl rfl)
theorem dX0_measure_13 : decode cX0_measure 13 = .ok (.aload_n 0, 1) := dk_42 (dk_at dksX0_measure_0 13 rfl rfl)
theorem dX0_measure_14 : decode cX0_measure 14 = .ok (.getfield 97, 3) := dk_180 0 97 (dk_at dksX0_measure_0 14 rfl rfl)
theorem dX0_measure_17 : decode cX0_measure 17 = .ok (.if_icmp .ge 31, 3) := dk_162 0 31 (dk_at dksX0_measure_0 17 rfl rfl)
theorem dX0_measure_20 : decode cX0_measure 20 = .ok (.aload_n 0, 1) := dk_42 (dk_at dksX0_measure_0 20 rfl rfl)
theorem dX0_measure_21 : decode cX0_measure 21 = .ok (.getfield 19, 3) := dk_180 0 19 (dk_at dksX0_measure_0 21 rfl rfl)
theorem dX0_measure_24 : decode cX0_measure 24 = .ok (.bipush 6, 2) := dk_16 6 (dk_at dksX0_measure_1 0 rfl rfl)
theorem dX0_measure_26 : decode cX0_measure 26 = .ok (.iload_n 1, 1) := dk_27 (dk_at dksX0_measure_1 2 rfl rfl)
theorem dX0_measure_27 : decode cX0_measure 27 = .ok (.imul, 1) := dk_104 (dk_at dksX0_measure_1 3 rfl rfl)
theorem dX0_measure_28 : decode cX0_measure 28 = .ok (.iload_n 2, 1) := dk_28 (dk_at dksX0_measure_1 4 rfl rfl)
theorem dX0_measure_29 : decode cX0_measure 29 = .ok (.iadd, 1) := dk_96 (dk_at dksX0_measure_1 5 rfl rfl)
theorem dX0_measure_30 : decode cX0_measure 30 = .ok (.iload_n 1, 1) := dk_27 (dk_at dksX0_measure_1 6 rfl rfl)
theorem dX0_measure_31 : decode cX0_measure 31 = .ok (.iload_n 2, 1) := dk_28 (dk_at dksX0_measure_1 7 rfl rfl)
theorem dX0_measure_32 : decode cX0_measure 32 = .ok (.if_icmp .ne 7, 3) := dk_160 0 7 (dk_at dksX0_measure_1 8 rfl rfl)
theorem dX0_measure_35 : decode cX0_measure 35 = .ok (.iconst 0, 1) := dk_3 (dk_at dksX0_measure_1 11 rfl rfl)
theorem dX0_measure_36 : decode cX0_measure 36 = .ok (.goto 5, 3) := dk_167 0 5 (dk_at dksX0_measure_1 12 rfl rfl)
theorem dX0_measure_39 : decode cX0_measure 39 = .ok (.ldc 105, 2) := dk_18 105 (dk_at dksX0_measure_1 15 rfl rfl)
theorem dX0_measure_41 : decode cX0_measure 41 = .ok (.iastore, 1) := dk_79 (dk_at dksX0_measure_1 17 rfl rfl)
theorem dX0_measure_42 : decode cX0_measure 42 = .ok (.iinc 2 1, 3) := dk_132 2 1 (dk_at dksX0_measure_1 18 rfl rfl)
theorem dX0_measure_45 : decode cX0_measure 45 = .ok (.goto (-33), 3) := dk_167 255 223 (dk_at dksX0_measure_1 21 rfl rfl)
theorem dX0_measure_48 : decode cX0_measure 48 = .ok (.iinc 1 1, 3) := dk_132 1 1 (dk_at dksX0_measure_2 0 rfl rfl)
theorem dX0_measure_51 : decode cX0_measure 51 = .ok (.goto (-49), 3) := dk_167 255 207 (dk_at dksX0_measure_2 3 rfl rfl)
theorem dX0_measure_54 : decode cX0_measure 54 = .ok (.iconst 0, 1) := dk_3 (dk_at dksX0_measure_2 6 rfl rfl)
theorem dX0_measure_55 : decode cX0_measure 55 = .ok (.istore_n 1, 1) := dk_60 (dk_at dksX0_measure_2 7 rfl rfl)
theorem dX0_measure_56 : decode cX0_measure 56 = .ok (.iload_n 1, 1) := dk_27 (dk_at dksX0_measure_2 8 rfl rfl)
theorem dX0_measure_57 : decode cX0_measure 57 = .ok (.aload_n 0, 1) := dk_42 (dk_at dksX0_measure_2 9 rfl rfl)
theorem dX0_measure_58 : decode cX0_measure 58 = .ok (.getfield 106, 3) := dk_180 0 106 (dk_at dksX0_measure_2 10 rfl rfl)
theorem dX0_measure_61 : decode cX0_measure 61 = .ok (.if_icmp .ge 84, 3) := dk_162 0 84 (dk_at dksX0_measure_2 13 rfl rfl)
theorem dX0_measure_64 : decode cX0_measure 64 = .ok (.aload_n 0, 1) := dk_42 (dk_at dksX0_measure_2 16 rfl rfl)
theorem dX0_measure_65 : decode cX0_measure 65 = .ok (.getfield 16, 3) := dk_180 0 16 (dk_at dksX0_measure_2 17 rfl rfl)
theorem dX0_measure_68 : decode cX0_measure 68 = .ok (.iload_n 1, 1) := dk_27 (dk_at dksX0_measure_2 20 rfl rfl)
theorem dX0_measure_69 : decode cX0_measure 69 = .ok (.iaload, 1) := dk_46 (dk_at dksX0_measure_2 21 rfl rfl)
theorem dX0_measure_70 : decode cX0_measure 70 = .ok (.aload_n 0, 1) := dk_42 (dk_at dksX0_measure_2 22 rfl rfl)
theorem dX0_measure_71 : decode cX0_measure 71 = .ok (.getfield 19, 3) := dk_180 0 19 (dk_at dksX0_measure_3 0 rfl rfl)
theorem dX0_measure_74 : decode cX0_measure 74 = .ok (.bipush 6, 2) := dk_16 6 (dk_at dksX0_measure_3 3 rfl rfl)
theorem dX0_measure_76 : decode cX0_measure 76 = .ok (.aload_n 0, 1) := dk_42 (dk_at dksX0_measure_3 5 rfl rfl)
theorem dX0_measure_77 : decode cX0_measure 77 = .ok (.getfield 9, 3) := dk_180 0 9 (dk_at dksX0_measure_3 6 rfl rfl)
theorem dX0_measure_80 : decode cX0_measure 80 = .ok (.iload_n 1, 1) := dk_27 (dk_at dksX0_measure_3 9 rfl rfl)
theorem dX0_measure_81 : decode cX0_measure 81 = .ok (.iaload, 1) := dk_46 (dk_at dksX0_measure_3 10 rfl rfl)
theorem dX0_measure_82 : decode cX0_measure 82 = .ok (.imul, 1) := dk_104 (dk_at dksX0_measure_3 11 rfl rfl)
theorem dX0_measure_83 : decode cX0_measure 83 = .ok (.aload_n 0, 1) := dk_42 (dk_at dksX0_measure_3 12 rfl rfl)
theorem dX0_measure_84 : decode cX0_measure 84 = .ok (.getfield 13, 3) := dk_180 0 13 (dk_at dksX0_measure_3 13 rfl rfl)
theorem dX0_measure_87 : decode cX0_measure 87 = .ok (.iload_n 1, 1) := dk_27 (dk_at dksX0_measure_3 16 rfl rfl)
theorem dX0_measure_88 : decode cX0_measure 88 = .ok (.iaload, 1) := dk_46 (dk_at dksX0_measure_3 17 rfl rfl)
theorem dX0_measure_89 : decode cX0_measure 89 = .ok (.iadd, 1) := dk_96 (dk_at dksX0_measure_3 18 rfl rfl)
theorem dX0_measure_90 : decode cX0_measure 90 = .ok (.iaload, 1) := dk_46 (dk_at dksX0_measure_3 19 rfl rfl)
theorem dX0_measure_91 : decode cX0_measure 91 = .ok (.invokestatic 109, 3) := dk_184 0 109 (dk_at dksX0_measure_3 20 rfl rfl)
theorem dX0_measure_94 : decode cX0_measure 94 = .ok (.istore_n 2, 1) := dk_61 (dk_at dksX0_measure_3 23 rfl rfl)
theorem dX0_measure_95 : decode cX0_measure 95 = .ok (.aload_n 0, 1) := dk_42 (dk_at dksX0_measure_4 0 rfl rfl)
theorem dX0_measure_96 : decode cX0_measure 96 = .ok (.getfield 19, 3) := dk_180 0 19 (dk_at dksX0_measure_4 1 rfl rfl)
theorem dX0_measure_99 : decode cX0_measure 99 = .ok (.bipush 6, 2) := dk_16 6 (dk_at dksX0_measure_4 4 rfl rfl)
theorem dX0_measure_101 : decode cX0_measure 101 = .ok (.aload_n 0, 1) := dk_42 (dk_at dksX0_measure_4 6 rfl rfl)
theorem dX0_measure_102 : decode cX0_measure 102 = .ok (.getfield 9, 3) := dk_180 0 9 (dk_at dksX0_measure_4 7 rfl rfl)
theorem dX0_measure_105 : decode cX0_measure 105 = .ok (.iload_n 1, 1) := dk_27 (dk_at dksX0_measure_4 10 rfl rfl)
theorem dX0_measure_106 : decode cX0_measure 106 = .ok (.iaload, 1) := dk_46 (dk_at dksX0_measure_4 11 rfl rfl)
theorem dX0_measure_107 : decode cX0_measure 107 = .ok (.imul, 1) := dk_104 (dk_at dksX0_measure_4 12 rfl rfl)
theorem dX0_measure_108 : decode cX0_measure 108 = .ok (.aload_n 0, 1) := dk_42 (dk_at dksX0_measure_4 13 rfl rfl)
theorem dX0_measure_109 : decode cX0_measure 109 = .ok (.getfield 13, 3) := dk_180 0 13 (dk_at dksX0_measure_4 14 rfl rfl)
theorem dX0_measure_112 : decode cX0_measure 112 = .ok (.iload_n 1, 1) := dk_27 (dk_at dksX0_measure_4 17 rfl rfl)
theorem dX0_measure_113 : decode cX0_measure 113 = .ok (.iaload, 1) := dk_46 (dk_at dksX0_measure_4 18 rfl rfl)
theorem dX0_measure_114 : decode cX0_measure 114 = .ok (.iadd, 1) := dk_96 (dk_at dksX0_measure_4 19 rfl rfl)
theorem dX0_measure_115 : decode cX0_measure 115 = .ok (.iload_n 2, 1) := dk_28 (dk_at dksX0_measure_4 20 rfl rfl)
theorem dX0_measure_116 : decode cX0_measure 116 = .ok (.iastore, 1) := dk_79 (dk_at dksX0_measure_4 21 rfl rfl)
theorem dX0_measure_117 : decode cX0_measure 117 = .ok (.aload_n 0, 1) := dk_42 (dk_at dksX0_measure_4 22 rfl rfl)
theorem dX0_measure_118 : decode cX0_measure 118 = .ok (.getfield 19, 3) := dk_180 0 19 (dk_at dksX0_measure_5 0 rfl rfl)
theorem dX0_measure_121 : decode cX0_measure 121 = .ok (.bipush 6, 2) := dk_16 6 (dk_at dksX0_measure_5 3 rfl rfl)
theorem dX0_measure_123 : decode cX0_measure 123 = .ok (.aload_n 0, 1) := dk_42 (dk_at dksX0_measure_5 5 rfl rfl)
theorem dX0_measure_124 : decode cX0_measure 124 = .ok (.getfield 13, 3) := dk_180 0 13 (dk_at dksX0_measure_5 6 rfl rfl)
theorem dX0_measure_127 : decode cX0_measure 127 = .ok (.iload_n 1, 1) := dk_27 (dk_at dksX0_measure_5 9 rfl rfl)
theorem dX0_measure_128 : decode cX0_measure 128 = .ok (.iaload, 1) := dk_46 (dk_at dksX0_measure_5 10 rfl rfl)
theorem dX0_measure_129 : decode cX0_measure 129 = .ok (.imul, 1) := dk_104 (dk_at dksX0_measure_5 11 rfl rfl)
theorem dX0_measure_130 : decode cX0_measure 130 = .ok (.aload_n 0, 1) := dk_42 (dk_at dksX0_measure_5 12 rfl rfl)
theorem dX0_measure_131 : decode cX0_measure 131 = .ok (.getfield 9, 3) := dk_180 0 9 (dk_at dksX0_measure_5 13 rfl rfl)
theorem dX0_measure_134 : decode cX0_measure 134 = .ok (.iload_n 1, 1) := dk_27 (dk_at dksX0_measure_5 16 rfl rfl)
theorem dX0_measure_135 : decode cX0_measure 135 = .ok (.iaload, 1) := dk_46 (dk_at dksX0_measure_5 17 rfl rfl)
theorem dX0_measure_136 : decode cX0_measure 136 = .ok (.iadd, 1) := dk_96 (dk_at dksX0_measure_5 18 rfl rfl)
theorem dX0_measure_137 : decode cX0_measure 137 = .ok (.iload_n 2, 1) := dk_28 (dk_at dksX0_measure_5 19 rfl rfl)
theorem dX0_measure_138 : decode cX0_measure 138 = .ok (.iastore, 1) := dk_79 (dk_at dksX0_measure_5 20 rfl rfl)
theorem dX0_measure_139 : decode cX0_measure 139 = .ok (.iinc 1 1, 3) := dk_132 1 1 (dk_at dksX0_measure_5 21 rfl rfl)
theorem dX0_measure_142 : decode cX0_measure 142 = .ok (.goto (-86), 3) := dk_167 255 170 (dk_at dksX0_measure_6 0 rfl rfl)
theorem dX0_measure_145 : decode cX0_measure 145 = .ok (.iconst 0, 1) := dk_3 (dk_at dksX0_measure_6 3 rfl rfl)
theorem dX0_measure_146 : decode cX0_measure 146 = .ok (.istore_n 1, 1) := dk_60 (dk_at dksX0_measure_6 4 rfl rfl)
theorem dX0_measure_147 : decode cX0_measure 147 = .ok (.iload_n 1, 1) := dk_27 (dk_at dksX0_measure_6 5 rfl rfl)
theorem dX0_measure_148 : decode cX0_measure 148 = .ok (.aload_n 0, 1) := dk_42 (dk_at dksX0_measure_6 6 rfl rfl)
theorem dX0_measure_149 : decode cX0_measure 149 = .ok (.getfield 97, 3) := dk_180 0 97 (dk_at dksX0_measure_6 7 rfl rfl)
theorem dX0_measure_152 : decode cX0_measure 152 = .ok (.if_icmp .ge 89, 3) := dk_162 0 89 (dk_at dksX0_measure_6 10 rfl rfl)
theorem dX0_measure_155 : decode cX0_measure 155 = .ok (.iconst 0, 1) := dk_3 (dk_at dksX0_measure_6 13 rfl rfl)
theorem dX0_measure_156 : decode cX0_measure 156 = .ok (.istore_n 2, 1) := dk_61 (dk_at dksX0_measure_6 14 rfl rfl)
theorem dX0_measure_157 : decode cX0_measure 157 = .ok (.iload_n 2, 1) := dk_28 (dk_at dksX0_measure_6 15 rfl rfl)
theorem dX0_measure_158 : decode cX0_measure 158 = .ok (.aload_n 0, 1) := dk_42 (dk_at dksX0_measure_6 16 rfl rfl)
theorem dX0_measure_159 : decode cX0_measure 159 = .ok (.getfield 97, 3) := dk_180 0 97 (dk_at dksX0_measure_6 17 rfl rfl)
theorem dX0_measure_162 : decode cX0_measure 162 = .ok (.if_icmp .ge 73, 3) := dk_162 0 73 (dk_at dksX0_measure_6 20 rfl rfl)
theorem dX0_measure_165 : decode cX0_measure 165 = .ok (.iconst 0, 1) := dk_3 (dk_at dksX0_measure_6 23 rfl rfl)
theorem dX0_measure_166 : decode cX0_measure 166 = .ok (.istore_n 3, 1) := dk_62 (dk_at dksX0_measure_7 0 rfl rfl)
theorem dX0_measure_167 : decode cX0_measure 167 = .ok (.iload_n 3, 1) := dk_29 (dk_at dksX0_measure_7 1 rfl rfl)
theorem dX0_measure_168 : decode cX0_measure 168 = .ok (.aload_n 0, 1) := dk_42 (dk_at dksX0_measure_7 2 rfl rfl)
theorem dX0_measure_169 : decode cX0_measure 169 = .ok (.getfield 97, 3) := dk_180 0 97 (dk_at dksX0_measure_7 3 rfl rfl)
theorem dX0_measure_172 : decode cX0_measure 172 = .ok (.if_icmp .ge 57, 3) := dk_162 0 57 (dk_at dksX0_measure_7 6 rfl rfl)
theorem dX0_measure_175 : decode cX0_measure 175 = .ok (.aload_n 0, 1) := dk_42 (dk_at dksX0_measure_7 9 rfl rfl)
theorem dX0_measure_176 : decode cX0_measure 176 = .ok (.getfield 19, 3) := dk_180 0 19 (dk_at dksX0_measure_7 10 rfl rfl)
theorem dX0_measure_179 : decode cX0_measure 179 = .ok (.bipush 6, 2) := dk_16 6 (dk_at dksX0_measure_7 13 rfl rfl)
theorem dX0_measure_181 : decode cX0_measure 181 = .ok (.iload_n 2, 1) := dk_28 (dk_at dksX0_measure_7 15 rfl rfl)
theorem dX0_measure_182 : decode cX0_measure 182 = .ok (.imul, 1) := dk_104 (dk_at dksX0_measure_7 16 rfl rfl)
theorem dX0_measure_183 : decode cX0_measure 183 = .ok (.iload_n 3, 1) := dk_29 (dk_at dksX0_measure_7 17 rfl rfl)
theorem dX0_measure_184 : decode cX0_measure 184 = .ok (.iadd, 1) := dk_96 (dk_at dksX0_measure_7 18 rfl rfl)
theorem dX0_measure_185 : decode cX0_measure 185 = .ok (.aload_n 0, 1) := dk_42 (dk_at dksX0_measure_7 19 rfl rfl)
theorem dX0_measure_186 : decode cX0_measure 186 = .ok (.getfield 19, 3) := dk_180 0 19 (dk_at dksX0_measure_7 20 rfl rfl)
theorem dX0_measure_189 : decode cX0_measure 189 = .ok (.bipush 6, 2) := dk_16 6 (dk_at dksX0_measure_8 0 rfl rfl)
theorem dX0_measure_191 : decode cX0_measure 191 = .ok (.iload_n 2, 1) := dk_28 (dk_at dksX0_measure_8 2 rfl rfl)
theorem dX0_measure_192 : decode cX0_measure 192 = .ok (.imul, 1) := dk_104 (dk_at dksX0_measure_8 3 rfl rfl)
theorem dX0_measure_193 : decode cX0_measure 193 = .ok (.iload_n 3, 1) := dk_29 (dk_at dksX0_measure_8 4 rfl rfl)
theorem dX0_measure_194 : decode cX0_measure 194 = .ok (.iadd, 1) := dk_96 (dk_at dksX0_measure_8 5 rfl rfl)
theorem dX0_measure_195 : decode cX0_measure 195 = .ok (.iaload, 1) := dk_46 (dk_at dksX0_measure_8 6 rfl rfl)
theorem dX0_measure_196 : decode cX0_measure 196 = .ok (.aload_n 0, 1) := dk_42 (dk_at dksX0_measure_8 7 rfl rfl)
theorem dX0_measure_197 : decode cX0_measure 197 = .ok (.getfield 19, 3) := dk_180 0 19 (dk_at dksX0_measure_8 8 rfl rfl)
theorem dX0_measure_200 : decode cX0_measure 200 = .ok (.bipush 6, 2) := dk_16 6 (dk_at dksX0_measure_8 11 rfl rfl)
theorem dX0_measure_202 : decode cX0_measure 202 = .ok (.iload_n 2, 1) := dk_28 (dk_at dksX0_measure_8 13 rfl rfl)
theorem dX0_measure_203 : decode cX0_measure 203 = .ok (.imul, 1) := dk_104 (dk_at dksX0_measure_8 14 rfl rfl)
theorem dX0_measure_204 : decode cX0_measure 204 = .ok (.iload_n 1, 1) := dk_27 (dk_at dksX0_measure_8 15 rfl rfl)
theorem dX0_measure_205 : decode cX0_measure 205 = .ok (.iadd, 1) := dk_96 (dk_at dksX0_measure_8 16 rfl rfl)
theorem dX0_measure_206 : decode cX0_measure 206 = .ok (.iaload, 1) := dk_46 (dk_at dksX0_measure_8 17 rfl rfl)
theorem dX0_measure_207 : decode cX0_measure 207 = .ok (.aload_n 0, 1) := dk_42 (dk_at dksX0_measure_8 18 rfl rfl)
theorem dX0_measure_208 : decode cX0_measure 208 = .ok (.getfield 19, 3) := dk_180 0 19 (dk_at dksX0_measure_8 19 rfl rfl)
theorem dX0_measure_211 : decode cX0_measure 211 = .ok (.bipush 6, 2) := dk_16 6 (dk_at dksX0_measure_8 22 rfl rfl)
theorem dX0_measure_213 : decode cX0_measure 213 = .ok (.iload_n 1, 1) := dk_27 (dk_at dksX0_measure_9 0 rfl rfl)
theorem dX0_measure_214 : decode cX0_measure 214 = .ok (.imul, 1) := dk_104 (dk_at dksX0_measure_9 1 rfl rfl)
theorem dX0_measure_215 : decode cX0_measure 215 = .ok (.iload_n 3, 1) := dk_29 (dk_at dksX0_measure_9 2 rfl rfl)
theorem dX0_measure_216 : decode cX0_measure 216 = .ok (.iadd, 1) := dk_96 (dk_at dksX0_measure_9 3 rfl rfl)
theorem dX0_measure_217 : decode cX0_measure 217 = .ok (.iaload, 1) := dk_46 (dk_at dksX0_measure_9 4 rfl rfl)
theorem dX0_measure_218 : decode cX0_measure 218 = .ok (.iadd, 1) := dk_96 (dk_at dksX0_measure_9 5 rfl rfl)
theorem dX0_measure_219 : decode cX0_measure 219 = .ok (.invokestatic 109, 3) := dk_184 0 109 (dk_at dksX0_measure_9 6 rfl rfl)
theorem dX0_measure_222 : decode cX0_measure 222 = .ok (.iastore, 1) := dk_79 (dk_at dksX0_measure_9 9 rfl rfl)
theorem dX0_measure_223 : decode cX0_measure 223 = .ok (.iinc 3 1, 3) := dk_132 3 1 (dk_at dksX0_measure_9 10 rfl rfl)
theorem dX0_measure_226 : decode cX0_measure 226 = .ok (.goto (-59), 3) := dk_167 255 197 (dk_at dksX0_measure_9 13 rfl rfl)
theorem dX0_measure_229 : decode cX0_measure 229 = .ok (.iinc 2 1, 3) := dk_132 2 1 (dk_at dksX0_measure_9 16 rfl rfl)
theorem dX0_measure_232 : decode cX0_measure 232 = .ok (.goto (-75), 3) := dk_167 255 181 (dk_at dksX0_measure_9 19 rfl rfl)
theorem dX0_measure_235 : decode cX0_measure 235 = .ok (.iinc 1 1, 3) := dk_132 1 1 (dk_at dksX0_measure_10 0 rfl rfl)
theorem dX0_measure_238 : decode cX0_measure 238 = .ok (.goto (-91), 3) := dk_167 255 165 (dk_at dksX0_measure_10 3 rfl rfl)
theorem dX0_measure_241 : decode cX0_measure 241 = .ok (.return_, 1) := dk_177 (dk_at dksX0_measure_10 6 rfl rfl)
abbrev cX0_road : ByteArray := prog_1_method_9_code
def yX0_road : MethodName := ⟨RX0, "road", "(III)I"⟩
def dkwX0_road_2 : List UInt8 := [79, 42, 89, 180, 0, 106, 4, 96, 181, 0, 106, 42, 182, 0, 121, 42, 180, 0, 106, 172]
abbrev dktX0_road_2 : List UInt8 := dkwX0_road_2 ++ []
def dkwX0_road_1 : List UInt8 := [180, 0, 106, 27, 79, 42, 180, 0, 13, 42, 180, 0, 106, 28, 79, 42, 180, 0, 16, 42, 180, 0, 106, 29]
abbrev dktX0_road_1 : List UInt8 := dkwX0_road_1 ++ dktX0_road_2
def dkwX0_road_0 : List UInt8 := [42, 27, 28, 29, 182, 0, 128, 54, 4, 21, 4, 153, 0, 6, 21, 4, 172, 42, 180, 0, 9, 42]
abbrev dktX0_road_0 : List UInt8 := dkwX0_road_0 ++ dktX0_road_1
theorem dksX0_road_0 : cX0_road.data.toList.drop 0 = dktX0_road_0 := by decide +kernel
theorem dksX0_road_1 : cX0_road.data.toList.drop 22 = dktX0_road_1 := dk_seg dksX0_road_0 22 rfl rfl
theorem dksX0_road_2 : cX0_road.data.toList.drop 46 = dktX0_road_2 := dk_seg dksX0_road_1 24 rfl rfl
theorem dX0_road_0 : decode cX0_road 0 = .ok (.aload_n 0, 1) := dk_42 (dk_at dksX0_road_0 0 rfl rfl)
theorem dX0_road_1 : decode cX0_road 1 = .ok (.iload_n 1, 1) := dk_27 (dk_at dksX0_road_0 1 rfl rfl)
theorem dX0_road_2 : decode cX0_road 2 = .ok (.iload_n 2, 1) := dk_28 (dk_at dksX0_road_0 2 rfl rfl)
theorem dX0_road_3 : decode cX0_road 3 = .ok (.iload_n 3, 1) := dk_29 (dk_at dksX0_road_0 3 rfl rfl)
theorem dX0_road_4 : decode cX0_road 4 = .ok (.invokevirtual 128, 3) := dk_182 0 128 (dk_at dksX0_road_0 4 rfl rfl)
theorem dX0_road_7 : decode cX0_road 7 = .ok (.istore 4, 2) := dk_54 4 (dk_at dksX0_road_0 7 rfl rfl)
theorem dX0_road_9 : decode cX0_road 9 = .ok (.iload 4, 2) := dk_21 4 (dk_at dksX0_road_0 9 rfl rfl)
theorem dX0_road_11 : decode cX0_road 11 = .ok (.ifCond .eq 6, 3) := dk_153 0 6 (dk_at dksX0_road_0 11 rfl rfl)
theorem dX0_road_14 : decode cX0_road 14 = .ok (.iload 4, 2) := dk_21 4 (dk_at dksX0_road_0 14 rfl rfl)
theorem dX0_road_16 : decode cX0_road 16 = .ok (.ireturn, 1) := dk_172 (dk_at dksX0_road_0 16 rfl rfl)
theorem dX0_road_17 : decode cX0_road 17 = .ok (.aload_n 0, 1) := dk_42 (dk_at dksX0_road_0 17 rfl rfl)
theorem dX0_road_18 : decode cX0_road 18 = .ok (.getfield 9, 3) := dk_180 0 9 (dk_at dksX0_road_0 18 rfl rfl)
theorem dX0_road_21 : decode cX0_road 21 = .ok (.aload_n 0, 1) := dk_42 (dk_at dksX0_road_0 21 rfl rfl)
theorem dX0_road_22 : decode cX0_road 22 = .ok (.getfield 106, 3) := dk_180 0 106 (dk_at dksX0_road_1 0 rfl rfl)
theorem dX0_road_25 : decode cX0_road 25 = .ok (.iload_n 1, 1) := dk_27 (dk_at dksX0_road_1 3 rfl rfl)
theorem dX0_road_26 : decode cX0_road 26 = .ok (.iastore, 1) := dk_79 (dk_at dksX0_road_1 4 rfl rfl)
theorem dX0_road_27 : decode cX0_road 27 = .ok (.aload_n 0, 1) := dk_42 (dk_at dksX0_road_1 5 rfl rfl)
theorem dX0_road_28 : decode cX0_road 28 = .ok (.getfield 13, 3) := dk_180 0 13 (dk_at dksX0_road_1 6 rfl rfl)
theorem dX0_road_31 : decode cX0_road 31 = .ok (.aload_n 0, 1) := dk_42 (dk_at dksX0_road_1 9 rfl rfl)
theorem dX0_road_32 : decode cX0_road 32 = .ok (.getfield 106, 3) := dk_180 0 106 (dk_at dksX0_road_1 10 rfl rfl)
theorem dX0_road_35 : decode cX0_road 35 = .ok (.iload_n 2, 1) := dk_28 (dk_at dksX0_road_1 13 rfl rfl)
theorem dX0_road_36 : decode cX0_road 36 = .ok (.iastore, 1) := dk_79 (dk_at dksX0_road_1 14 rfl rfl)
theorem dX0_road_37 : decode cX0_road 37 = .ok (.aload_n 0, 1) := dk_42 (dk_at dksX0_road_1 15 rfl rfl)
theorem dX0_road_38 : decode cX0_road 38 = .ok (.getfield 16, 3) := dk_180 0 16 (dk_at dksX0_road_1 16 rfl rfl)
theorem dX0_road_41 : decode cX0_road 41 = .ok (.aload_n 0, 1) := dk_42 (dk_at dksX0_road_1 19 rfl rfl)
theorem dX0_road_42 : decode cX0_road 42 = .ok (.getfield 106, 3) := dk_180 0 106 (dk_at dksX0_road_1 20 rfl rfl)
theorem dX0_road_45 : decode cX0_road 45 = .ok (.iload_n 3, 1) := dk_29 (dk_at dksX0_road_1 23 rfl rfl)
theorem dX0_road_46 : decode cX0_road 46 = .ok (.iastore, 1) := dk_79 (dk_at dksX0_road_2 0 rfl rfl)
theorem dX0_road_47 : decode cX0_road 47 = .ok (.aload_n 0, 1) := dk_42 (dk_at dksX0_road_2 1 rfl rfl)
theorem dX0_road_48 : decode cX0_road 48 = .ok (.dup, 1) := dk_89 (dk_at dksX0_road_2 2 rfl rfl)
theorem dX0_road_49 : decode cX0_road 49 = .ok (.getfield 106, 3) := dk_180 0 106 (dk_at dksX0_road_2 3 rfl rfl)
theorem dX0_road_52 : decode cX0_road 52 = .ok (.iconst 1, 1) := dk_4 (dk_at dksX0_road_2 6 rfl rfl)
theorem dX0_road_53 : decode cX0_road 53 = .ok (.iadd, 1) := dk_96 (dk_at dksX0_road_2 7 rfl rfl)
theorem dX0_road_54 : decode cX0_road 54 = .ok (.putfield 106, 3) := dk_181 0 106 (dk_at dksX0_road_2 8 rfl rfl)
theorem dX0_road_57 : decode cX0_road 57 = .ok (.aload_n 0, 1) := dk_42 (dk_at dksX0_road_2 11 rfl rfl)
theorem dX0_road_58 : decode cX0_road 58 = .ok (.invokevirtual 121, 3) := dk_182 0 121 (dk_at dksX0_road_2 12 rfl rfl)
theorem dX0_road_61 : decode cX0_road 61 = .ok (.aload_n 0, 1) := dk_42 (dk_at dksX0_road_2 15 rfl rfl)
theorem dX0_road_62 : decode cX0_road 62 = .ok (.getfield 106, 3) := dk_180 0 106 (dk_at dksX0_road_2 16 rfl rfl)
theorem dX0_road_65 : decode cX0_road 65 = .ok (.ireturn, 1) := dk_172 (dk_at dksX0_road_2 19 rfl rfl)
abbrev cX0_against : ByteArray := prog_1_method_8_code
def yX0_against : MethodName := ⟨RX0, "against", "(III)I"⟩
def dkwX0_against_2 : List UInt8 := [180, 0, 106, 16, 15, 160, 0, 8, 16, 253, 167, 0, 4, 3, 172]
abbrev dktX0_against_2 : List UInt8 := dkwX0_against_2 ++ []
def dkwX0_against_1 : List UInt8 := [16, 100, 184, 0, 101, 154, 0, 5, 2, 172, 42, 180, 0, 118, 158, 0, 8, 16, 254, 167, 0, 18, 42]
abbrev dktX0_against_1 : List UInt8 := dkwX0_against_1 ++ dktX0_against_2
def dkwX0_against_0 : List UInt8 := [42, 27, 182, 0, 124, 153, 0, 26, 42, 28, 182, 0, 124, 153, 0, 18, 27, 28, 159, 0, 13, 29, 4]
abbrev dktX0_against_0 : List UInt8 := dkwX0_against_0 ++ dktX0_against_1
theorem dksX0_against_0 : cX0_against.data.toList.drop 0 = dktX0_against_0 := by decide +kernel
theorem dksX0_against_1 : cX0_against.data.toList.drop 23 = dktX0_against_1 := dk_seg dksX0_against_0 23 rfl rfl
theorem dksX0_against_2 : cX0_against.data.toList.drop 46 = dktX0_against_2 := dk_seg dksX0_against_1 23 rfl rfl
theorem dX0_against_0 : decode cX0_against 0 = .ok (.aload_n 0, 1) := dk_42 (dk_at dksX0_against_0 0 rfl rfl)
theorem dX0_against_1 : decode cX0_against 1 = .ok (.iload_n 1, 1) := dk_27 (dk_at dksX0_against_0 1 rfl rfl)
theorem dX0_against_2 : decode cX0_against 2 = .ok (.invokevirtual 124, 3) := dk_182 0 124 (dk_at dksX0_against_0 2 rfl rfl)
theorem dX0_against_5 : decode cX0_against 5 = .ok (.ifCond .eq 26, 3) := dk_153 0 26 (dk_at dksX0_against_0 5 rfl rfl)
theorem dX0_against_8 : decode cX0_against 8 = .ok (.aload_n 0, 1) := dk_42 (dk_at dksX0_against_0 8 rfl rfl)
theorem dX0_against_9 : decode cX0_against 9 = .ok (.iload_n 2, 1) := dk_28 (dk_at dksX0_against_0 9 rfl rfl)
theorem dX0_against_10 : decode cX0_against 10 = .ok (.invokevirtual 124, 3) := dk_182 0 124 (dk_at dksX0_against_0 10 rfl rfl)
theorem dX0_against_13 : decode cX0_against 13 = .ok (.ifCond .eq 18, 3) := dk_153 0 18 (dk_at dksX0_against_0 13 rfl rfl)
theorem dX0_against_16 : decode cX0_against 16 = .ok (.iload_n 1, 1) := dk_27 (dk_at dksX0_against_0 16 rfl rfl)
theorem dX0_against_17 : decode cX0_against 17 = .ok (.iload_n 2, 1) := dk_28 (dk_at dksX0_against_0 17 rfl rfl)
theorem dX0_against_18 : decode cX0_against 18 = .ok (.if_icmp .eq 13, 3) := dk_159 0 13 (dk_at dksX0_against_0 18 rfl rfl)
theorem dX0_against_21 : decode cX0_against 21 = .ok (.iload_n 3, 1) := dk_29 (dk_at dksX0_against_0 21 rfl rfl)
theorem dX0_against_22 : decode cX0_against 22 = .ok (.iconst 1, 1) := dk_4 (dk_at dksX0_against_0 22 rfl rfl)
theorem dX0_against_23 : decode cX0_against 23 = .ok (.bipush 100, 2) := dk_16 100 (dk_at dksX0_against_1 0 rfl rfl)
theorem dX0_against_25 : decode cX0_against 25 = .ok (.invokestatic 101, 3) := dk_184 0 101 (dk_at dksX0_against_1 2 rfl rfl)
theorem dX0_against_28 : decode cX0_against 28 = .ok (.ifCond .ne 5, 3) := dk_154 0 5 (dk_at dksX0_against_1 5 rfl rfl)
theorem dX0_against_31 : decode cX0_against 31 = .ok (.iconst (-1), 1) := dk_2 (dk_at dksX0_against_1 8 rfl rfl)
theorem dX0_against_32 : decode cX0_against 32 = .ok (.ireturn, 1) := dk_172 (dk_at dksX0_against_1 9 rfl rfl)
theorem dX0_against_33 : decode cX0_against 33 = .ok (.aload_n 0, 1) := dk_42 (dk_at dksX0_against_1 10 rfl rfl)
theorem dX0_against_34 : decode cX0_against 34 = .ok (.getfield 118, 3) := dk_180 0 118 (dk_at dksX0_against_1 11 rfl rfl)
theorem dX0_against_37 : decode cX0_against 37 = .ok (.ifCond .le 8, 3) := dk_158 0 8 (dk_at dksX0_against_1 14 rfl rfl)
theorem dX0_against_40 : decode cX0_against 40 = .ok (.bipush (-2), 2) := dk_16 254 (dk_at dksX0_against_1 17 rfl rfl)
theorem dX0_against_42 : decode cX0_against 42 = .ok (.goto 18, 3) := dk_167 0 18 (dk_at dksX0_against_1 19 rfl rfl)
theorem dX0_against_45 : decode cX0_against 45 = .ok (.aload_n 0, 1) := dk_42 (dk_at dksX0_against_1 22 rfl rfl)
theorem dX0_against_46 : decode cX0_against 46 = .ok (.getfield 106, 3) := dk_180 0 106 (dk_at dksX0_against_2 0 rfl rfl)
theorem dX0_against_49 : decode cX0_against 49 = .ok (.bipush 15, 2) := dk_16 15 (dk_at dksX0_against_2 3 rfl rfl)
theorem dX0_against_51 : decode cX0_against 51 = .ok (.if_icmp .ne 8, 3) := dk_160 0 8 (dk_at dksX0_against_2 5 rfl rfl)
theorem dX0_against_54 : decode cX0_against 54 = .ok (.bipush (-3), 2) := dk_16 253 (dk_at dksX0_against_2 8 rfl rfl)
theorem dX0_against_56 : decode cX0_against 56 = .ok (.goto 4, 3) := dk_167 0 4 (dk_at dksX0_against_2 10 rfl rfl)
theorem dX0_against_59 : decode cX0_against 59 = .ok (.iconst 0, 1) := dk_3 (dk_at dksX0_against_2 13 rfl rfl)
theorem dX0_against_60 : decode cX0_against 60 = .ok (.ireturn, 1) := dk_172 (dk_at dksX0_against_2 14 rfl rfl)
abbrev cX0_isPlace : ByteArray := prog_1_method_3_code
def yX0_isPlace : MethodName := ⟨RX0, "isPlace", "(I)Z"⟩
def dkwX0_isPlace_0 : List UInt8 := [27, 3, 42, 180, 0, 97, 4, 100, 184, 0, 101, 172]
abbrev dktX0_isPlace_0 : List UInt8 := dkwX0_isPlace_0 ++ []
theorem dksX0_isPlace_0 : cX0_isPlace.data.toList.drop 0 = dktX0_isPlace_0 := by decide +kernel
theorem dX0_isPlace_0 : decode cX0_isPlace 0 = .ok (.iload_n 1, 1) := dk_27 (dk_at dksX0_isPlace_0 0 rfl rfl)
theorem dX0_isPlace_1 : decode cX0_isPlace 1 = .ok (.iconst 0, 1) := dk_3 (dk_at dksX0_isPlace_0 1 rfl rfl)
theorem dX0_isPlace_2 : decode cX0_isPlace 2 = .ok (.aload_n 0, 1) := dk_42 (dk_at dksX0_isPlace_0 2 rfl rfl)
theorem dX0_isPlace_3 : decode cX0_isPlace 3 = .ok (.getfield 97, 3) := dk_180 0 97 (dk_at dksX0_isPlace_0 3 rfl rfl)
theorem dX0_isPlace_6 : decode cX0_isPlace 6 = .ok (.iconst 1, 1) := dk_4 (dk_at dksX0_isPlace_0 6 rfl rfl)
theorem dX0_isPlace_7 : decode cX0_isPlace 7 = .ok (.isub, 1) := dk_100 (dk_at dksX0_isPlace_0 7 rfl rfl)
theorem dX0_isPlace_8 : decode cX0_isPlace 8 = .ok (.invokestatic 101, 3) := dk_184 0 101 (dk_at dksX0_isPlace_0 8 rfl rfl)
theorem dX0_isPlace_11 : decode cX0_isPlace 11 = .ok (.ireturn, 1) := dk_172 (dk_at dksX0_isPlace_0 11 rfl rfl)
abbrev cX0_in : ByteArray := prog_1_method_2_code
def yX0_in : MethodName := ⟨RX0, "in", "(III)Z"⟩
def dkwX0_in_0 : List UInt8 := [26, 27, 161, 0, 12, 26, 28, 163, 0, 7, 4, 167, 0, 4, 3, 172]
abbrev dktX0_in_0 : List UInt8 := dkwX0_in_0 ++ []
theorem dksX0_in_0 : cX0_in.data.toList.drop 0 = dktX0_in_0 := by decide +kernel
theorem dX0_in_0 : decode cX0_in 0 = .ok (.iload_n 0, 1) := dk_26 (dk_at dksX0_in_0 0 rfl rfl)
theorem dX0_in_1 : decode cX0_in 1 = .ok (.iload_n 1, 1) := dk_27 (dk_at dksX0_in_0 1 rfl rfl)
theorem dX0_in_2 : decode cX0_in 2 = .ok (.if_icmp .lt 12, 3) := dk_161 0 12 (dk_at dksX0_in_0 2 rfl rfl)
theorem dX0_in_5 : decode cX0_in 5 = .ok (.iload_n 0, 1) := dk_26 (dk_at dksX0_in_0 5 rfl rfl)
theorem dX0_in_6 : decode cX0_in 6 = .ok (.iload_n 2, 1) := dk_28 (dk_at dksX0_in_0 6 rfl rfl)
theorem dX0_in_7 : decode cX0_in 7 = .ok (.if_icmp .gt 7, 3) := dk_163 0 7 (dk_at dksX0_in_0 7 rfl rfl)
theorem dX0_in_10 : decode cX0_in 10 = .ok (.iconst 1, 1) := dk_4 (dk_at dksX0_in_0 10 rfl rfl)
theorem dX0_in_11 : decode cX0_in 11 = .ok (.goto 4, 3) := dk_167 0 4 (dk_at dksX0_in_0 11 rfl rfl)
theorem dX0_in_14 : decode cX0_in 14 = .ok (.iconst 0, 1) := dk_3 (dk_at dksX0_in_0 14 rfl rfl)
theorem dX0_in_15 : decode cX0_in 15 = .ok (.ireturn, 1) := dk_172 (dk_at dksX0_in_0 15 rfl rfl)
abbrev cX0_apart : ByteArray := prog_1_method_10_code
def yX0_apart : MethodName := ⟨RX0, "apart", "(II)I"⟩
def dkwX0_apart_1 : List UInt8 := [18, 105, 161, 0, 8, 16, 247, 167, 0, 9, 42, 27, 28, 182, 0, 115, 172]
abbrev dktX0_apart_1 : List UInt8 := dkwX0_apart_1 ++ []
def dkwX0_apart_0 : List UInt8 := [42, 27, 182, 0, 124, 153, 0, 11, 42, 28, 182, 0, 124, 154, 0, 5, 2, 172, 42, 27, 28, 182, 0, 115]
abbrev dktX0_apart_0 : List UInt8 := dkwX0_apart_0 ++ dktX0_apart_1
theorem dksX0_apart_0 : cX0_apart.data.toList.drop 0 = dktX0_apart_0 := by decide +kernel
theorem dksX0_apart_1 : cX0_apart.data.toList.drop 24 = dktX0_apart_1 := dk_seg dksX0_apart_0 24 rfl rfl
theorem dX0_apart_0 : decode cX0_apart 0 = .ok (.aload_n 0, 1) := dk_42 (dk_at dksX0_apart_0 0 rfl rfl)
theorem dX0_apart_1 : decode cX0_apart 1 = .ok (.iload_n 1, 1) := dk_27 (dk_at dksX0_apart_0 1 rfl rfl)
theorem dX0_apart_2 : decode cX0_apart 2 = .ok (.invokevirtual 124, 3) := dk_182 0 124 (dk_at dksX0_apart_0 2 rfl rfl)
theorem dX0_apart_5 : decode cX0_apart 5 = .ok (.ifCond .eq 11, 3) := dk_153 0 11 (dk_at dksX0_apart_0 5 rfl rfl)
theorem dX0_apart_8 : decode cX0_apart 8 = .ok (.aload_n 0, 1) := dk_42 (dk_at dksX0_apart_0 8 rfl rfl)
theorem dX0_apart_9 : decode cX0_apart 9 = .ok (.iload_n 2, 1) := dk_28 (dk_at dksX0_apart_0 9 rfl rfl)
theorem dX0_apart_10 : decode cX0_apart 10 = .ok (.invokevirtual 124, 3) := dk_182 0 124 (dk_at dksX0_apart_0 10 rfl rfl)
theorem dX0_apart_13 : decode cX0_apart 13 = .ok (.ifCond .ne 5, 3) := dk_154 0 5 (dk_at dksX0_apart_0 13 rfl rfl)
theorem dX0_apart_16 : decode cX0_apart 16 = .ok (.iconst (-1), 1) := dk_2 (dk_at dksX0_apart_0 16 rfl rfl)
theorem dX0_apart_17 : decode cX0_apart 17 = .ok (.ireturn, 1) := dk_172 (dk_at dksX0_apart_0 17 rfl rfl)
theorem dX0_apart_18 : decode cX0_apart 18 = .ok (.aload_n 0, 1) := dk_42 (dk_at dksX0_apart_0 18 rfl rfl)
theorem dX0_apart_19 : decode cX0_apart 19 = .ok (.iload_n 1, 1) := dk_27 (dk_at dksX0_apart_0 19 rfl rfl)
theorem dX0_apart_20 : decode cX0_apart 20 = .ok (.iload_n 2, 1) := dk_28 (dk_at dksX0_apart_0 20 rfl rfl)
theorem dX0_apart_21 : decode cX0_apart 21 = .ok (.invokevirtual 115, 3) := dk_182 0 115 (dk_at dksX0_apart_0 21 rfl rfl)
theorem dX0_apart_24 : decode cX0_apart 24 = .ok (.ldc 105, 2) := dk_18 105 (dk_at dksX0_apart_1 0 rfl rfl)
theorem dX0_apart_26 : decode cX0_apart 26 = .ok (.if_icmp .lt 8, 3) := dk_161 0 8 (dk_at dksX0_apart_1 2 rfl rfl)
theorem dX0_apart_29 : decode cX0_apart 29 = .ok (.bipush (-9), 2) := dk_16 247 (dk_at dksX0_apart_1 5 rfl rfl)
theorem dX0_apart_31 : decode cX0_apart 31 = .ok (.goto 9, 3) := dk_167 0 9 (dk_at dksX0_apart_1 7 rfl rfl)
theorem dX0_apart_34 : decode cX0_apart 34 = .ok (.aload_n 0, 1) := dk_42 (dk_at dksX0_apart_1 10 rfl rfl)
theorem dX0_apart_35 : decode cX0_apart 35 = .ok (.iload_n 1, 1) := dk_27 (dk_at dksX0_apart_1 11 rfl rfl)
theorem dX0_apart_36 : decode cX0_apart 36 = .ok (.iload_n 2, 1) := dk_28 (dk_at dksX0_apart_1 12 rfl rfl)
theorem dX0_apart_37 : decode cX0_apart 37 = .ok (.invokevirtual 115, 3) := dk_182 0 115 (dk_at dksX0_apart_1 13 rfl rfl)
theorem dX0_apart_40 : decode cX0_apart 40 = .ok (.ireturn, 1) := dk_172 (dk_at dksX0_apart_1 16 rfl rfl)
abbrev cX0_distance : ByteArray := prog_1_method_5_code
def yX0_distance : MethodName := ⟨RX0, "distance", "(II)I"⟩
def dkwX0_distance_0 : List UInt8 := [42, 180, 0, 19, 16, 6, 27, 104, 28, 96, 46, 172]
abbrev dktX0_distance_0 : List UInt8 := dkwX0_distance_0 ++ []
theorem dksX0_distance_0 : cX0_distance.data.toList.drop 0 = dktX0_distance_0 := by decide +kernel
theorem dX0_distance_0 : decode cX0_distance 0 = .ok (.aload_n 0, 1) := dk_42 (dk_at dksX0_distance_0 0 rfl rfl)
theorem dX0_distance_1 : decode cX0_distance 1 = .ok (.getfield 19, 3) := dk_180 0 19 (dk_at dksX0_distance_0 1 rfl rfl)
theorem dX0_distance_4 : decode cX0_distance 4 = .ok (.bipush 6, 2) := dk_16 6 (dk_at dksX0_distance_0 4 rfl rfl)
theorem dX0_distance_6 : decode cX0_distance 6 = .ok (.iload_n 1, 1) := dk_27 (dk_at dksX0_distance_0 6 rfl rfl)
theorem dX0_distance_7 : decode cX0_distance 7 = .ok (.imul, 1) := dk_104 (dk_at dksX0_distance_0 7 rfl rfl)
theorem dX0_distance_8 : decode cX0_distance 8 = .ok (.iload_n 2, 1) := dk_28 (dk_at dksX0_distance_0 8 rfl rfl)
theorem dX0_distance_9 : decode cX0_distance 9 = .ok (.iadd, 1) := dk_96 (dk_at dksX0_distance_0 9 rfl rfl)
theorem dX0_distance_10 : decode cX0_distance 10 = .ok (.iaload, 1) := dk_46 (dk_at dksX0_distance_0 10 rfl rfl)
theorem dX0_distance_11 : decode cX0_distance 11 = .ok (.ireturn, 1) := dk_172 (dk_at dksX0_distance_0 11 rfl rfl)
abbrev cX0_way : ByteArray := prog_1_method_11_code
def yX0_way : MethodName := ⟨RX0, "way", "(II)I"⟩
def dkwX0_way_6 : List UInt8 := [132, 4, 1, 167, 255, 142, 29, 172]
abbrev dktX0_way_6 : List UInt8 := dkwX0_way_6 ++ []
def dkwX0_way_5 : List UInt8 := [28, 182, 0, 115, 160, 0, 19, 29, 156, 0, 8, 21, 5, 167, 0, 9, 29, 21, 5, 184, 0, 109, 62]
abbrev dktX0_way_5 : List UInt8 := dkwX0_way_5 ++ dktX0_way_6
def dkwX0_way_4 : List UInt8 := [54, 5, 21, 5, 155, 0, 43, 42, 180, 0, 16, 21, 4, 46, 42, 21, 5, 28, 182, 0, 115, 96, 42, 27]
abbrev dktX0_way_4 : List UInt8 := dkwX0_way_4 ++ dktX0_way_5
def dkwX0_way_3 : List UInt8 := [42, 180, 0, 13, 21, 4, 46, 27, 160, 0, 13, 42, 180, 0, 9, 21, 4, 46, 167, 0, 5, 16, 247]
abbrev dktX0_way_3 : List UInt8 := dkwX0_way_3 ++ dktX0_way_4
def dkwX0_way_2 : List UInt8 := [162, 0, 100, 42, 180, 0, 9, 21, 4, 46, 27, 160, 0, 13, 42, 180, 0, 13, 21, 4, 46, 167, 0, 26]
abbrev dktX0_way_2 : List UInt8 := dkwX0_way_2 ++ dktX0_way_3
def dkwX0_way_1 : List UInt8 := [172, 16, 247, 62, 3, 54, 4, 21, 4, 42, 180, 0, 106, 162, 0, 111, 42, 27, 28, 182, 0, 115, 18, 105]
abbrev dktX0_way_1 : List UInt8 := dkwX0_way_1 ++ dktX0_way_2
def dkwX0_way_0 : List UInt8 := [42, 27, 182, 0, 124, 153, 0, 11, 42, 28, 182, 0, 124, 154, 0, 5, 2, 172, 27, 28, 160, 0, 5, 28]
abbrev dktX0_way_0 : List UInt8 := dkwX0_way_0 ++ dktX0_way_1
theorem dksX0_way_0 : cX0_way.data.toList.drop 0 = dktX0_way_0 := by decide +kernel
theorem dksX0_way_1 : cX0_way.data.toList.drop 24 = dktX0_way_1 := dk_seg dksX0_way_0 24 rfl rfl
theorem dksX0_way_2 : cX0_way.data.toList.drop 48 = dktX0_way_2 := dk_seg dksX0_way_1 24 rfl rfl
theorem dksX0_way_3 : cX0_way.data.toList.drop 72 = dktX0_way_3 := dk_seg dksX0_way_2 24 rfl rfl
theorem dksX0_way_4 : cX0_way.data.toList.drop 95 = dktX0_way_4 := dk_seg dksX0_way_3 23 rfl rfl
theorem dksX0_way_5 : cX0_way.data.toList.drop 119 = dktX0_way_5 := dk_seg dksX0_way_4 24 rfl rfl
theorem dksX0_way_6 : cX0_way.data.toList.drop 142 = dktX0_way_6 := dk_seg dksX0_way_5 23 rfl rfl
theorem dX0_way_0 : decode cX0_way 0 = .ok (.aload_n 0, 1) := dk_42 (dk_at dksX0_way_0 0 rfl rfl)
theorem dX0_way_1 : decode cX0_way 1 = .ok (.iload_n 1, 1) := dk_27 (dk_at dksX0_way_0 1 rfl rfl)
theorem dX0_way_2 : decode cX0_way 2 = .ok (.invokevirtual 124, 3) := dk_182 0 124 (dk_at dksX0_way_0 2 rfl rfl)
theorem dX0_way_5 : decode cX0_way 5 = .ok (.ifCond .eq 11, 3) := dk_153 0 11 (dk_at dksX0_way_0 5 rfl rfl)
theorem dX0_way_8 : decode cX0_way 8 = .ok (.aload_n 0, 1) := dk_42 (dk_at dksX0_way_0 8 rfl rfl)
theorem dX0_way_9 : decode cX0_way 9 = .ok (.iload_n 2, 1) := dk_28 (dk_at dksX0_way_0 9 rfl rfl)
theorem dX0_way_10 : decode cX0_way 10 = .ok (.invokevirtual 124, 3) := dk_182 0 124 (dk_at dksX0_way_0 10 rfl rfl)
theorem dX0_way_13 : decode cX0_way 13 = .ok (.ifCond .ne 5, 3) := dk_154 0 5 (dk_at dksX0_way_0 13 rfl rfl)
theorem dX0_way_16 : decode cX0_way 16 = .ok (.iconst (-1), 1) := dk_2 (dk_at dksX0_way_0 16 rfl rfl)
theorem dX0_way_17 : decode cX0_way 17 = .ok (.ireturn, 1) := dk_172 (dk_at dksX0_way_0 17 rfl rfl)
theorem dX0_way_18 : decode cX0_way 18 = .ok (.iload_n 1, 1) := dk_27 (dk_at dksX0_way_0 18 rfl rfl)
theorem dX0_way_19 : decode cX0_way 19 = .ok (.iload_n 2, 1) := dk_28 (dk_at dksX0_way_0 19 rfl rfl)
theorem dX0_way_20 : decode cX0_way 20 = .ok (.if_icmp .ne 5, 3) := dk_160 0 5 (dk_at dksX0_way_0 20 rfl rfl)
theorem dX0_way_23 : decode cX0_way 23 = .ok (.iload_n 2, 1) := dk_28 (dk_at dksX0_way_0 23 rfl rfl)
theorem dX0_way_24 : decode cX0_way 24 = .ok (.ireturn, 1) := dk_172 (dk_at dksX0_way_1 0 rfl rfl)
theorem dX0_way_25 : decode cX0_way 25 = .ok (.bipush (-9), 2) := dk_16 247 (dk_at dksX0_way_1 1 rfl rfl)
theorem dX0_way_27 : decode cX0_way 27 = .ok (.istore_n 3, 1) := dk_62 (dk_at dksX0_way_1 3 rfl rfl)
theorem dX0_way_28 : decode cX0_way 28 = .ok (.iconst 0, 1) := dk_3 (dk_at dksX0_way_1 4 rfl rfl)
theorem dX0_way_29 : decode cX0_way 29 = .ok (.istore 4, 2) := dk_54 4 (dk_at dksX0_way_1 5 rfl rfl)
theorem dX0_way_31 : decode cX0_way 31 = .ok (.iload 4, 2) := dk_21 4 (dk_at dksX0_way_1 7 rfl rfl)
theorem dX0_way_33 : decode cX0_way 33 = .ok (.aload_n 0, 1) := dk_42 (dk_at dksX0_way_1 9 rfl rfl)
theorem dX0_way_34 : decode cX0_way 34 = .ok (.getfield 106, 3) := dk_180 0 106 (dk_at dksX0_way_1 10 rfl rfl)
theorem dX0_way_37 : decode cX0_way 37 = .ok (.if_icmp .ge 111, 3) := dk_162 0 111 (dk_at dksX0_way_1 13 rfl rfl)
theorem dX0_way_40 : decode cX0_way 40 = .ok (.aload_n 0, 1) := dk_42 (dk_at dksX0_way_1 16 rfl rfl)
theorem dX0_way_41 : decode cX0_way 41 = .ok (.iload_n 1, 1) := dk_27 (dk_at dksX0_way_1 17 rfl rfl)
theorem dX0_way_42 : decode cX0_way 42 = .ok (.iload_n 2, 1) := dk_28 (dk_at dksX0_way_1 18 rfl rfl)
theorem dX0_way_43 : decode cX0_way 43 = .ok (.invokevirtual 115, 3) := dk_182 0 115 (dk_at dksX0_way_1 19 rfl rfl)
theorem dX0_way_46 : decode cX0_way 46 = .ok (.ldc 105, 2) := dk_18 105 (dk_at dksX0_way_1 22 rfl rfl)
theorem dX0_way_48 : decode cX0_way 48 = .ok (.if_icmp .ge 100, 3) := dk_162 0 100 (dk_at dksX0_way_2 0 rfl rfl)
theorem dX0_way_51 : decode cX0_way 51 = .ok (.aload_n 0, 1) := dk_42 (dk_at dksX0_way_2 3 rfl rfl)
theorem dX0_way_52 : decode cX0_way 52 = .ok (.getfield 9, 3) := dk_180 0 9 (dk_at dksX0_way_2 4 rfl rfl)
theorem dX0_way_55 : decode cX0_way 55 = .ok (.iload 4, 2) := dk_21 4 (dk_at dksX0_way_2 7 rfl rfl)
theorem dX0_way_57 : decode cX0_way 57 = .ok (.iaload, 1) := dk_46 (dk_at dksX0_way_2 9 rfl rfl)
theorem dX0_way_58 : decode cX0_way 58 = .ok (.iload_n 1, 1) := dk_27 (dk_at dksX0_way_2 10 rfl rfl)
theorem dX0_way_59 : decode cX0_way 59 = .ok (.if_icmp .ne 13, 3) := dk_160 0 13 (dk_at dksX0_way_2 11 rfl rfl)
theorem dX0_way_62 : decode cX0_way 62 = .ok (.aload_n 0, 1) := dk_42 (dk_at dksX0_way_2 14 rfl rfl)
theorem dX0_way_63 : decode cX0_way 63 = .ok (.getfield 13, 3) := dk_180 0 13 (dk_at dksX0_way_2 15 rfl rfl)
theorem dX0_way_66 : decode cX0_way 66 = .ok (.iload 4, 2) := dk_21 4 (dk_at dksX0_way_2 18 rfl rfl)
theorem dX0_way_68 : decode cX0_way 68 = .ok (.iaload, 1) := dk_46 (dk_at dksX0_way_2 20 rfl rfl)
theorem dX0_way_69 : decode cX0_way 69 = .ok (.goto 26, 3) := dk_167 0 26 (dk_at dksX0_way_2 21 rfl rfl)
theorem dX0_way_72 : decode cX0_way 72 = .ok (.aload_n 0, 1) := dk_42 (dk_at dksX0_way_3 0 rfl rfl)
theorem dX0_way_73 : decode cX0_way 73 = .ok (.getfield 13, 3) := dk_180 0 13 (dk_at dksX0_way_3 1 rfl rfl)
theorem dX0_way_76 : decode cX0_way 76 = .ok (.iload 4, 2) := dk_21 4 (dk_at dksX0_way_3 4 rfl rfl)
theorem dX0_way_78 : decode cX0_way 78 = .ok (.iaload, 1) := dk_46 (dk_at dksX0_way_3 6 rfl rfl)
theorem dX0_way_79 : decode cX0_way 79 = .ok (.iload_n 1, 1) := dk_27 (dk_at dksX0_way_3 7 rfl rfl)
theorem dX0_way_80 : decode cX0_way 80 = .ok (.if_icmp .ne 13, 3) := dk_160 0 13 (dk_at dksX0_way_3 8 rfl rfl)
theorem dX0_way_83 : decode cX0_way 83 = .ok (.aload_n 0, 1) := dk_42 (dk_at dksX0_way_3 11 rfl rfl)
theorem dX0_way_84 : decode cX0_way 84 = .ok (.getfield 9, 3) := dk_180 0 9 (dk_at dksX0_way_3 12 rfl rfl)
theorem dX0_way_87 : decode cX0_way 87 = .ok (.iload 4, 2) := dk_21 4 (dk_at dksX0_way_3 15 rfl rfl)
theorem dX0_way_89 : decode cX0_way 89 = .ok (.iaload, 1) := dk_46 (dk_at dksX0_way_3 17 rfl rfl)
theorem dX0_way_90 : decode cX0_way 90 = .ok (.goto 5, 3) := dk_167 0 5 (dk_at dksX0_way_3 18 rfl rfl)
theorem dX0_way_93 : decode cX0_way 93 = .ok (.bipush (-9), 2) := dk_16 247 (dk_at dksX0_way_3 21 rfl rfl)
theorem dX0_way_95 : decode cX0_way 95 = .ok (.istore 5, 2) := dk_54 5 (dk_at dksX0_way_4 0 rfl rfl)
theorem dX0_way_97 : decode cX0_way 97 = .ok (.iload 5, 2) := dk_21 5 (dk_at dksX0_way_4 2 rfl rfl)
theorem dX0_way_99 : decode cX0_way 99 = .ok (.ifCond .lt 43, 3) := dk_155 0 43 (dk_at dksX0_way_4 4 rfl rfl)
theorem dX0_way_102 : decode cX0_way 102 = .ok (.aload_n 0, 1) := dk_42 (dk_at dksX0_way_4 7 rfl rfl)
theorem dX0_way_103 : decode cX0_way 103 = .ok (.getfield 16, 3) := dk_180 0 16 (dk_at dksX0_way_4 8 rfl rfl)
theorem dX0_way_106 : decode cX0_way 106 = .ok (.iload 4, 2) := dk_21 4 (dk_at dksX0_way_4 11 rfl rfl)
theorem dX0_way_108 : decode cX0_way 108 = .ok (.iaload, 1) := dk_46 (dk_at dksX0_way_4 13 rfl rfl)
theorem dX0_way_109 : decode cX0_way 109 = .ok (.aload_n 0, 1) := dk_42 (dk_at dksX0_way_4 14 rfl rfl)
theorem dX0_way_110 : decode cX0_way 110 = .ok (.iload 5, 2) := dk_21 5 (dk_at dksX0_way_4 15 rfl rfl)
theorem dX0_way_112 : decode cX0_way 112 = .ok (.iload_n 2, 1) := dk_28 (dk_at dksX0_way_4 17 rfl rfl)
theorem dX0_way_113 : decode cX0_way 113 = .ok (.invokevirtual 115, 3) := dk_182 0 115 (dk_at dksX0_way_4 18 rfl rfl)
theorem dX0_way_116 : decode cX0_way 116 = .ok (.iadd, 1) := dk_96 (dk_at dksX0_way_4 21 rfl rfl)
theorem dX0_way_117 : decode cX0_way 117 = .ok (.aload_n 0, 1) := dk_42 (dk_at dksX0_way_4 22 rfl rfl)
theorem dX0_way_118 : decode cX0_way 118 = .ok (.iload_n 1, 1) := dk_27 (dk_at dksX0_way_4 23 rfl rfl)
theorem dX0_way_119 : decode cX0_way 119 = .ok (.iload_n 2, 1) := dk_28 (dk_at dksX0_way_5 0 rfl rfl)
theorem dX0_way_120 : decode cX0_way 120 = .ok (.invokevirtual 115, 3) := dk_182 0 115 (dk_at dksX0_way_5 1 rfl rfl)
theorem dX0_way_123 : decode cX0_way 123 = .ok (.if_icmp .ne 19, 3) := dk_160 0 19 (dk_at dksX0_way_5 4 rfl rfl)
theorem dX0_way_126 : decode cX0_way 126 = .ok (.iload_n 3, 1) := dk_29 (dk_at dksX0_way_5 7 rfl rfl)
theorem dX0_way_127 : decode cX0_way 127 = .ok (.ifCond .ge 8, 3) := dk_156 0 8 (dk_at dksX0_way_5 8 rfl rfl)
theorem dX0_way_130 : decode cX0_way 130 = .ok (.iload 5, 2) := dk_21 5 (dk_at dksX0_way_5 11 rfl rfl)
theorem dX0_way_132 : decode cX0_way 132 = .ok (.goto 9, 3) := dk_167 0 9 (dk_at dksX0_way_5 13 rfl rfl)
theorem dX0_way_135 : decode cX0_way 135 = .ok (.iload_n 3, 1) := dk_29 (dk_at dksX0_way_5 16 rfl rfl)
theorem dX0_way_136 : decode cX0_way 136 = .ok (.iload 5, 2) := dk_21 5 (dk_at dksX0_way_5 17 rfl rfl)
theorem dX0_way_138 : decode cX0_way 138 = .ok (.invokestatic 109, 3) := dk_184 0 109 (dk_at dksX0_way_5 19 rfl rfl)
theorem dX0_way_141 : decode cX0_way 141 = .ok (.istore_n 3, 1) := dk_62 (dk_at dksX0_way_5 22 rfl rfl)
theorem dX0_way_142 : decode cX0_way 142 = .ok (.iinc 4 1, 3) := dk_132 4 1 (dk_at dksX0_way_6 0 rfl rfl)
theorem dX0_way_145 : decode cX0_way 145 = .ok (.goto (-114), 3) := dk_167 255 142 (dk_at dksX0_way_6 3 rfl rfl)
theorem dX0_way_148 : decode cX0_way 148 = .ok (.iload_n 3, 1) := dk_29 (dk_at dksX0_way_6 6 rfl rfl)
theorem dX0_way_149 : decode cX0_way 149 = .ok (.ireturn, 1) := dk_172 (dk_at dksX0_way_6 7 rfl rfl)
abbrev cX0_begin : ByteArray := prog_1_method_20_code
def yX0_begin : MethodName := ⟨RX0, "begin", "(II)I"⟩
def dkwX0_begin_2 : List UInt8 := [16, 254, 172, 42, 27, 181, 0, 118, 42, 28, 182, 0, 166, 4, 172]
abbrev dktX0_begin_2 : List UInt8 := dkwX0_begin_2 ++ []
def dkwX0_begin_1 : List UInt8 := [182, 0, 143, 54, 4, 42, 29, 181, 0, 118, 21, 4, 154, 0, 5, 2, 172, 42, 182, 0, 162, 153, 0, 6]
abbrev dktX0_begin_1 : List UInt8 := dkwX0_begin_1 ++ dktX0_begin_2
def dkwX0_begin_0 : List UInt8 := [27, 4, 6, 184, 0, 101, 154, 0, 5, 2, 172, 42, 180, 0, 118, 62, 42, 27, 181, 0, 118, 42, 28]
abbrev dktX0_begin_0 : List UInt8 := dkwX0_begin_0 ++ dktX0_begin_1
theorem dksX0_begin_0 : cX0_begin.data.toList.drop 0 = dktX0_begin_0 := by decide +kernel
theorem dksX0_begin_1 : cX0_begin.data.toList.drop 23 = dktX0_begin_1 := dk_seg dksX0_begin_0 23 rfl rfl
theorem dksX0_begin_2 : cX0_begin.data.toList.drop 47 = dktX0_begin_2 := dk_seg dksX0_begin_1 24 rfl rfl
theorem dX0_begin_0 : decode cX0_begin 0 = .ok (.iload_n 1, 1) := dk_27 (dk_at dksX0_begin_0 0 rfl rfl)
theorem dX0_begin_1 : decode cX0_begin 1 = .ok (.iconst 1, 1) := dk_4 (dk_at dksX0_begin_0 1 rfl rfl)
theorem dX0_begin_2 : decode cX0_begin 2 = .ok (.iconst 3, 1) := dk_6 (dk_at dksX0_begin_0 2 rfl rfl)
theorem dX0_begin_3 : decode cX0_begin 3 = .ok (.invokestatic 101, 3) := dk_184 0 101 (dk_at dksX0_begin_0 3 rfl rfl)
theorem dX0_begin_6 : decode cX0_begin 6 = .ok (.ifCond .ne 5, 3) := dk_154 0 5 (dk_at dksX0_begin_0 6 rfl rfl)
theorem dX0_begin_9 : decode cX0_begin 9 = .ok (.iconst (-1), 1) := dk_2 (dk_at dksX0_begin_0 9 rfl rfl)
theorem dX0_begin_10 : decode cX0_begin 10 = .ok (.ireturn, 1) := dk_172 (dk_at dksX0_begin_0 10 rfl rfl)
theorem dX0_begin_11 : decode cX0_begin 11 = .ok (.aload_n 0, 1) := dk_42 (dk_at dksX0_begin_0 11 rfl rfl)
theorem dX0_begin_12 : decode cX0_begin 12 = .ok (.getfield 118, 3) := dk_180 0 118 (dk_at dksX0_begin_0 12 rfl rfl)
theorem dX0_begin_15 : decode cX0_begin 15 = .ok (.istore_n 3, 1) := dk_62 (dk_at dksX0_begin_0 15 rfl rfl)
theorem dX0_begin_16 : decode cX0_begin 16 = .ok (.aload_n 0, 1) := dk_42 (dk_at dksX0_begin_0 16 rfl rfl)
theorem dX0_begin_17 : decode cX0_begin 17 = .ok (.iload_n 1, 1) := dk_27 (dk_at dksX0_begin_0 17 rfl rfl)
theorem dX0_begin_18 : decode cX0_begin 18 = .ok (.putfield 118, 3) := dk_181 0 118 (dk_at dksX0_begin_0 18 rfl rfl)
theorem dX0_begin_21 : decode cX0_begin 21 = .ok (.aload_n 0, 1) := dk_42 (dk_at dksX0_begin_0 21 rfl rfl)
theorem dX0_begin_22 : decode cX0_begin 22 = .ok (.iload_n 2, 1) := dk_28 (dk_at dksX0_begin_0 22 rfl rfl)
theorem dX0_begin_23 : decode cX0_begin 23 = .ok (.invokevirtual 143, 3) := dk_182 0 143 (dk_at dksX0_begin_1 0 rfl rfl)
theorem dX0_begin_26 : decode cX0_begin 26 = .ok (.istore 4, 2) := dk_54 4 (dk_at dksX0_begin_1 3 rfl rfl)
theorem dX0_begin_28 : decode cX0_begin 28 = .ok (.aload_n 0, 1) := dk_42 (dk_at dksX0_begin_1 5 rfl rfl)
theorem dX0_begin_29 : decode cX0_begin 29 = .ok (.iload_n 3, 1) := dk_29 (dk_at dksX0_begin_1 6 rfl rfl)
theorem dX0_begin_30 : decode cX0_begin 30 = .ok (.putfield 118, 3) := dk_181 0 118 (dk_at dksX0_begin_1 7 rfl rfl)
theorem dX0_begin_33 : decode cX0_begin 33 = .ok (.iload 4, 2) := dk_21 4 (dk_at dksX0_begin_1 10 rfl rfl)
theorem dX0_begin_35 : decode cX0_begin 35 = .ok (.ifCond .ne 5, 3) := dk_154 0 5 (dk_at dksX0_begin_1 12 rfl rfl)
theorem dX0_begin_38 : decode cX0_begin 38 = .ok (.iconst (-1), 1) := dk_2 (dk_at dksX0_begin_1 15 rfl rfl)
theorem dX0_begin_39 : decode cX0_begin 39 = .ok (.ireturn, 1) := dk_172 (dk_at dksX0_begin_1 16 rfl rfl)
theorem dX0_begin_40 : decode cX0_begin 40 = .ok (.aload_n 0, 1) := dk_42 (dk_at dksX0_begin_1 17 rfl rfl)
theorem dX0_begin_41 : decode cX0_begin 41 = .ok (.invokevirtual 162, 3) := dk_182 0 162 (dk_at dksX0_begin_1 18 rfl rfl)
theorem dX0_begin_44 : decode cX0_begin 44 = .ok (.ifCond .eq 6, 3) := dk_153 0 6 (dk_at dksX0_begin_1 21 rfl rfl)
theorem dX0_begin_47 : decode cX0_begin 47 = .ok (.bipush (-2), 2) := dk_16 254 (dk_at dksX0_begin_2 0 rfl rfl)
theorem dX0_begin_49 : decode cX0_begin 49 = .ok (.ireturn, 1) := dk_172 (dk_at dksX0_begin_2 2 rfl rfl)
theorem dX0_begin_50 : decode cX0_begin 50 = .ok (.aload_n 0, 1) := dk_42 (dk_at dksX0_begin_2 3 rfl rfl)
theorem dX0_begin_51 : decode cX0_begin 51 = .ok (.iload_n 1, 1) := dk_27 (dk_at dksX0_begin_2 4 rfl rfl)
theorem dX0_begin_52 : decode cX0_begin 52 = .ok (.putfield 118, 3) := dk_181 0 118 (dk_at dksX0_begin_2 5 rfl rfl)
theorem dX0_begin_55 : decode cX0_begin 55 = .ok (.aload_n 0, 1) := dk_42 (dk_at dksX0_begin_2 8 rfl rfl)
theorem dX0_begin_56 : decode cX0_begin 56 = .ok (.iload_n 2, 1) := dk_28 (dk_at dksX0_begin_2 9 rfl rfl)
theorem dX0_begin_57 : decode cX0_begin 57 = .ok (.invokevirtual 166, 3) := dk_182 0 166 (dk_at dksX0_begin_2 10 rfl rfl)
theorem dX0_begin_60 : decode cX0_begin 60 = .ok (.iconst 1, 1) := dk_4 (dk_at dksX0_begin_2 13 rfl rfl)
theorem dX0_begin_61 : decode cX0_begin 61 = .ok (.ireturn, 1) := dk_172 (dk_at dksX0_begin_2 14 rfl rfl)
abbrev cX0_isStand : ByteArray := prog_1_method_14_code
def yX0_isStand : MethodName := ⟨RX0, "isStand", "(I)Z"⟩
def dkwX0_isStand_2 : List UInt8 := [167, 0, 4, 3, 61, 132, 3, 1, 167, 255, 223, 28, 172]
abbrev dktX0_isStand_2 : List UInt8 := dkwX0_isStand_2 ++ []
def dkwX0_isStand_1 : List UInt8 := [42, 180, 0, 118, 162, 0, 31, 28, 153, 0, 19, 42, 27, 29, 184, 0, 132, 182, 0, 124, 153, 0, 7, 4]
abbrev dktX0_isStand_1 : List UInt8 := dkwX0_isStand_1 ++ dktX0_isStand_2
def dkwX0_isStand_0 : List UInt8 := [27, 155, 0, 18, 27, 6, 42, 180, 0, 118, 104, 122, 154, 0, 7, 4, 167, 0, 4, 3, 61, 3, 62, 29]
abbrev dktX0_isStand_0 : List UInt8 := dkwX0_isStand_0 ++ dktX0_isStand_1
theorem dksX0_isStand_0 : cX0_isStand.data.toList.drop 0 = dktX0_isStand_0 := by decide +kernel
theorem dksX0_isStand_1 : cX0_isStand.data.toList.drop 24 = dktX0_isStand_1 := dk_seg dksX0_isStand_0 24 rfl rfl
theorem dksX0_isStand_2 : cX0_isStand.data.toList.drop 48 = dktX0_isStand_2 := dk_seg dksX0_isStand_1 24 rfl rfl
theorem dX0_isStand_0 : decode cX0_isStand 0 = .ok (.iload_n 1, 1) := dk_27 (dk_at dksX0_isStand_0 0 rfl rfl)
theorem dX0_isStand_1 : decode cX0_isStand 1 = .ok (.ifCond .lt 18, 3) := dk_155 0 18 (dk_at dksX0_isStand_0 1 rfl rfl)
theorem dX0_isStand_4 : decode cX0_isStand 4 = .ok (.iload_n 1, 1) := dk_27 (dk_at dksX0_isStand_0 4 rfl rfl)
theorem dX0_isStand_5 : decode cX0_isStand 5 = .ok (.iconst 3, 1) := dk_6 (dk_at dksX0_isStand_0 5 rfl rfl)
theorem dX0_isStand_6 : decode cX0_isStand 6 = .ok (.aload_n 0, 1) := dk_42 (dk_at dksX0_isStand_0 6 rfl rfl)
theorem dX0_isStand_7 : decode cX0_isStand 7 = .ok (.getfield 118, 3) := dk_180 0 118 (dk_at dksX0_isStand_0 7 rfl rfl)
theorem dX0_isStand_10 : decode cX0_isStand 10 = .ok (.imul, 1) := dk_104 (dk_at dksX0_isStand_0 10 rfl rfl)
theorem dX0_isStand_11 : decode cX0_isStand 11 = .ok (.ishr, 1) := dk_122 (dk_at dksX0_isStand_0 11 rfl rfl)
theorem dX0_isStand_12 : decode cX0_isStand 12 = .ok (.ifCond .ne 7, 3) := dk_154 0 7 (dk_at dksX0_isStand_0 12 rfl rfl)
theorem dX0_isStand_15 : decode cX0_isStand 15 = .ok (.iconst 1, 1) := dk_4 (dk_at dksX0_isStand_0 15 rfl rfl)
theorem dX0_isStand_16 : decode cX0_isStand 16 = .ok (.goto 4, 3) := dk_167 0 4 (dk_at dksX0_isStand_0 16 rfl rfl)
theorem dX0_isStand_19 : decode cX0_isStand 19 = .ok (.iconst 0, 1) := dk_3 (dk_at dksX0_isStand_0 19 rfl rfl)
theorem dX0_isStand_20 : decode cX0_isStand 20 = .ok (.istore_n 2, 1) := dk_61 (dk_at dksX0_isStand_0 20 rfl rfl)
theorem dX0_isStand_21 : decode cX0_isStand 21 = .ok (.iconst 0, 1) := dk_3 (dk_at dksX0_isStand_0 21 rfl rfl)
theorem dX0_isStand_22 : decode cX0_isStand 22 = .ok (.istore_n 3, 1) := dk_62 (dk_at dksX0_isStand_0 22 rfl rfl)
theorem dX0_isStand_23 : decode cX0_isStand 23 = .ok (.iload_n 3, 1) := dk_29 (dk_at dksX0_isStand_0 23 rfl rfl)
theorem dX0_isStand_24 : decode cX0_isStand 24 = .ok (.aload_n 0, 1) := dk_42 (dk_at dksX0_isStand_1 0 rfl rfl)
theorem dX0_isStand_25 : decode cX0_isStand 25 = .ok (.getfield 118, 3) := dk_180 0 118 (dk_at dksX0_isStand_1 1 rfl rfl)
theorem dX0_isStand_28 : decode cX0_isStand 28 = .ok (.if_icmp .ge 31, 3) := dk_162 0 31 (dk_at dksX0_isStand_1 4 rfl rfl)
theorem dX0_isStand_31 : decode cX0_isStand 31 = .ok (.iload_n 2, 1) := dk_28 (dk_at dksX0_isStand_1 7 rfl rfl)
theorem dX0_isStand_32 : decode cX0_isStand 32 = .ok (.ifCond .eq 19, 3) := dk_153 0 19 (dk_at dksX0_isStand_1 8 rfl rfl)
theorem dX0_isStand_35 : decode cX0_isStand 35 = .ok (.aload_n 0, 1) := dk_42 (dk_at dksX0_isStand_1 11 rfl rfl)
theorem dX0_isStand_36 : decode cX0_isStand 36 = .ok (.iload_n 1, 1) := dk_27 (dk_at dksX0_isStand_1 12 rfl rfl)
theorem dX0_isStand_37 : decode cX0_isStand 37 = .ok (.iload_n 3, 1) := dk_29 (dk_at dksX0_isStand_1 13 rfl rfl)
theorem dX0_isStand_38 : decode cX0_isStand 38 = .ok (.invokestatic 132, 3) := dk_184 0 132 (dk_at dksX0_isStand_1 14 rfl rfl)
theorem dX0_isStand_41 : decode cX0_isStand 41 = .ok (.invokevirtual 124, 3) := dk_182 0 124 (dk_at dksX0_isStand_1 17 rfl rfl)
theorem dX0_isStand_44 : decode cX0_isStand 44 = .ok (.ifCond .eq 7, 3) := dk_153 0 7 (dk_at dksX0_isStand_1 20 rfl rfl)
theorem dX0_isStand_47 : decode cX0_isStand 47 = .ok (.iconst 1, 1) := dk_4 (dk_at dksX0_isStand_1 23 rfl rfl)
theorem dX0_isStand_48 : decode cX0_isStand 48 = .ok (.goto 4, 3) := dk_167 0 4 (dk_at dksX0_isStand_2 0 rfl rfl)
theorem dX0_isStand_51 : decode cX0_isStand 51 = .ok (.iconst 0, 1) := dk_3 (dk_at dksX0_isStand_2 3 rfl rfl)
theorem dX0_isStand_52 : decode cX0_isStand 52 = .ok (.istore_n 2, 1) := dk_61 (dk_at dksX0_isStand_2 4 rfl rfl)
theorem dX0_isStand_53 : decode cX0_isStand 53 = .ok (.iinc 3 1, 3) := dk_132 3 1 (dk_at dksX0_isStand_2 5 rfl rfl)
theorem dX0_isStand_56 : decode cX0_isStand 56 = .ok (.goto (-33), 3) := dk_167 255 223 (dk_at dksX0_isStand_2 8 rfl rfl)
theorem dX0_isStand_59 : decode cX0_isStand 59 = .ok (.iload_n 2, 1) := dk_28 (dk_at dksX0_isStand_2 11 rfl rfl)
theorem dX0_isStand_60 : decode cX0_isStand 60 = .ok (.ireturn, 1) := dk_172 (dk_at dksX0_isStand_2 12 rfl rfl)
abbrev cX0_at : ByteArray := prog_1_method_12_code
def yX0_at : MethodName := ⟨RX0, "at", "(II)I"⟩
def dkwX0_at_0 : List UInt8 := [26, 6, 27, 104, 122, 16, 7, 126, 172]
abbrev dktX0_at_0 : List UInt8 := dkwX0_at_0 ++ []
theorem dksX0_at_0 : cX0_at.data.toList.drop 0 = dktX0_at_0 := by decide +kernel
theorem dX0_at_0 : decode cX0_at 0 = .ok (.iload_n 0, 1) := dk_26 (dk_at dksX0_at_0 0 rfl rfl)
theorem dX0_at_1 : decode cX0_at 1 = .ok (.iconst 3, 1) := dk_6 (dk_at dksX0_at_0 1 rfl rfl)
theorem dX0_at_2 : decode cX0_at 2 = .ok (.iload_n 1, 1) := dk_27 (dk_at dksX0_at_0 2 rfl rfl)
theorem dX0_at_3 : decode cX0_at 3 = .ok (.imul, 1) := dk_104 (dk_at dksX0_at_0 3 rfl rfl)
theorem dX0_at_4 : decode cX0_at 4 = .ok (.ishr, 1) := dk_122 (dk_at dksX0_at_0 4 rfl rfl)
theorem dX0_at_5 : decode cX0_at 5 = .ok (.bipush 7, 2) := dk_16 7 (dk_at dksX0_at_0 5 rfl rfl)
theorem dX0_at_7 : decode cX0_at 7 = .ok (.iand, 1) := dk_126 (dk_at dksX0_at_0 7 rfl rfl)
theorem dX0_at_8 : decode cX0_at 8 = .ok (.ireturn, 1) := dk_172 (dk_at dksX0_at_0 8 rfl rfl)
abbrev cX0_areTorn : ByteArray := prog_1_method_6_code
def yX0_areTorn : MethodName := ⟨RX0, "areTorn", "()Z"⟩
def dkwX0_areTorn_1 : List UInt8 := [161, 0, 7, 4, 167, 0, 4, 3, 60, 132, 2, 1, 167, 255, 224, 27, 172]
abbrev dktX0_areTorn_1 : List UInt8 := dkwX0_areTorn_1 ++ []
def dkwX0_areTorn_0 : List UInt8 := [3, 60, 3, 61, 28, 42, 180, 0, 97, 162, 0, 30, 27, 154, 0, 14, 42, 3, 28, 182, 0, 115, 18, 105]
abbrev dktX0_areTorn_0 : List UInt8 := dkwX0_areTorn_0 ++ dktX0_areTorn_1
theorem dksX0_areTorn_0 : cX0_areTorn.data.toList.drop 0 = dktX0_areTorn_0 := by decide +kernel
theorem dksX0_areTorn_1 : cX0_areTorn.data.toList.drop 24 = dktX0_areTorn_1 := dk_seg dksX0_areTorn_0 24 rfl rfl
theorem dX0_areTorn_0 : decode cX0_areTorn 0 = .ok (.iconst 0, 1) := dk_3 (dk_at dksX0_areTorn_0 0 rfl rfl)
theorem dX0_areTorn_1 : decode cX0_areTorn 1 = .ok (.istore_n 1, 1) := dk_60 (dk_at dksX0_areTorn_0 1 rfl rfl)
theorem dX0_areTorn_2 : decode cX0_areTorn 2 = .ok (.iconst 0, 1) := dk_3 (dk_at dksX0_areTorn_0 2 rfl rfl)
theorem dX0_areTorn_3 : decode cX0_areTorn 3 = .ok (.istore_n 2, 1) := dk_61 (dk_at dksX0_areTorn_0 3 rfl rfl)
theorem dX0_areTorn_4 : decode cX0_areTorn 4 = .ok (.iload_n 2, 1) := dk_28 (dk_at dksX0_areTorn_0 4 rfl rfl)
theorem dX0_areTorn_5 : decode cX0_areTorn 5 = .ok (.aload_n 0, 1) := dk_42 (dk_at dksX0_areTorn_0 5 rfl rfl)
theorem dX0_areTorn_6 : decode cX0_areTorn 6 = .ok (.getfield 97, 3) := dk_180 0 97 (dk_at dksX0_areTorn_0 6 rfl rfl)
theorem dX0_areTorn_9 : decode cX0_areTorn 9 = .ok (.if_icmp .ge 30, 3) := dk_162 0 30 (dk_at dksX0_areTorn_0 9 rfl rfl)
theorem dX0_areTorn_12 : decode cX0_areTorn 12 = .ok (.iload_n 1, 1) := dk_27 (dk_at dksX0_areTorn_0 12 rfl rfl)
theorem dX0_areTorn_13 : decode cX0_areTorn 13 = .ok (.ifCond .ne 14, 3) := dk_154 0 14 (dk_at dksX0_areTorn_0 13 rfl rfl)
theorem dX0_areTorn_16 : decode cX0_areTorn 16 = .ok (.aload_n 0, 1) := dk_42 (dk_at dksX0_areTorn_0 16 rfl rfl)
theorem dX0_areTorn_17 : decode cX0_areTorn 17 = .ok (.iconst 0, 1) := dk_3 (dk_at dksX0_areTorn_0 17 rfl rfl)
theorem dX0_areTorn_18 : decode cX0_areTorn 18 = .ok (.iload_n 2, 1) := dk_28 (dk_at dksX0_areTorn_0 18 rfl rfl)
theorem dX0_areTorn_19 : decode cX0_areTorn 19 = .ok (.invokevirtual 115, 3) := dk_182 0 115 (dk_at dksX0_areTorn_0 19 rfl rfl)
theorem dX0_areTorn_22 : decode cX0_areTorn 22 = .ok (.ldc 105, 2) := dk_18 105 (dk_at dksX0_areTorn_0 22 rfl rfl)
theorem dX0_areTorn_24 : decode cX0_areTorn 24 = .ok (.if_icmp .lt 7, 3) := dk_161 0 7 (dk_at dksX0_areTorn_1 0 rfl rfl)
theorem dX0_areTorn_27 : decode cX0_areTorn 27 = .ok (.iconst 1, 1) := dk_4 (dk_at dksX0_areTorn_1 3 rfl rfl)
theorem dX0_areTorn_28 : decode cX0_areTorn 28 = .ok (.goto 4, 3) := dk_167 0 4 (dk_at dksX0_areTorn_1 4 rfl rfl)
theorem dX0_areTorn_31 : decode cX0_areTorn 31 = .ok (.iconst 0, 1) := dk_3 (dk_at dksX0_areTorn_1 7 rfl rfl)
theorem dX0_areTorn_32 : decode cX0_areTorn 32 = .ok (.istore_n 1, 1) := dk_60 (dk_at dksX0_areTorn_1 8 rfl rfl)
theorem dX0_areTorn_33 : decode cX0_areTorn 33 = .ok (.iinc 2 1, 3) := dk_132 2 1 (dk_at dksX0_areTorn_1 9 rfl rfl)
theorem dX0_areTorn_36 : decode cX0_areTorn 36 = .ok (.goto (-32), 3) := dk_167 255 224 (dk_at dksX0_areTorn_1 12 rfl rfl)
theorem dX0_areTorn_39 : decode cX0_areTorn 39 = .ok (.iload_n 1, 1) := dk_27 (dk_at dksX0_areTorn_1 15 rfl rfl)
theorem dX0_areTorn_40 : decode cX0_areTorn 40 = .ok (.ireturn, 1) := dk_172 (dk_at dksX0_areTorn_1 16 rfl rfl)
abbrev cX0_forget : ByteArray := prog_1_method_21_code
def yX0_forget : MethodName := ⟨RX0, "forget", "(I)V"⟩
def dkwX0_forget_1 : List UInt8 := [162, 0, 16, 42, 180, 0, 22, 28, 3, 79, 132, 2, 1, 167, 255, 241, 177]
abbrev dktX0_forget_1 : List UInt8 := dkwX0_forget_1 ++ []
def dkwX0_forget_0 : List UInt8 := [42, 27, 181, 0, 146, 42, 27, 181, 0, 170, 42, 3, 181, 0, 173, 42, 3, 181, 0, 176, 3, 61, 28, 6]
abbrev dktX0_forget_0 : List UInt8 := dkwX0_forget_0 ++ dktX0_forget_1
theorem dksX0_forget_0 : cX0_forget.data.toList.drop 0 = dktX0_forget_0 := by decide +kernel
theorem dksX0_forget_1 : cX0_forget.data.toList.drop 24 = dktX0_forget_1 := dk_seg dksX0_forget_0 24 rfl rfl
theorem dX0_forget_0 : decode cX0_forget 0 = .ok (.aload_n 0, 1) := dk_42 (dk_at dksX0_forget_0 0 rfl rfl)
theorem dX0_forget_1 : decode cX0_forget 1 = .ok (.iload_n 1, 1) := dk_27 (dk_at dksX0_forget_0 1 rfl rfl)
theorem dX0_forget_2 : decode cX0_forget 2 = .ok (.putfield 146, 3) := dk_181 0 146 (dk_at dksX0_forget_0 2 rfl rfl)
theorem dX0_forget_5 : decode cX0_forget 5 = .ok (.aload_n 0, 1) := dk_42 (dk_at dksX0_forget_0 5 rfl rfl)
theorem dX0_forget_6 : decode cX0_forget 6 = .ok (.iload_n 1, 1) := dk_27 (dk_at dksX0_forget_0 6 rfl rfl)
theorem dX0_forget_7 : decode cX0_forget 7 = .ok (.putfield 170, 3) := dk_181 0 170 (dk_at dksX0_forget_0 7 rfl rfl)
theorem dX0_forget_10 : decode cX0_forget 10 = .ok (.aload_n 0, 1) := dk_42 (dk_at dksX0_forget_0 10 rfl rfl)
theorem dX0_forget_11 : decode cX0_forget 11 = .ok (.iconst 0, 1) := dk_3 (dk_at dksX0_forget_0 11 rfl rfl)
theorem dX0_forget_12 : decode cX0_forget 12 = .ok (.putfield 173, 3) := dk_181 0 173 (dk_at dksX0_forget_0 12 rfl rfl)
theorem dX0_forget_15 : decode cX0_forget 15 = .ok (.aload_n 0, 1) := dk_42 (dk_at dksX0_forget_0 15 rfl rfl)
theorem dX0_forget_16 : decode cX0_forget 16 = .ok (.iconst 0, 1) := dk_3 (dk_at dksX0_forget_0 16 rfl rfl)
theorem dX0_forget_17 : decode cX0_forget 17 = .ok (.putfield 176, 3) := dk_181 0 176 (dk_at dksX0_forget_0 17 rfl rfl)
theorem dX0_forget_20 : decode cX0_forget 20 = .ok (.iconst 0, 1) := dk_3 (dk_at dksX0_forget_0 20 rfl rfl)
theorem dX0_forget_21 : decode cX0_forget 21 = .ok (.istore_n 2, 1) := dk_61 (dk_at dksX0_forget_0 21 rfl rfl)
theorem dX0_forget_22 : decode cX0_forget 22 = .ok (.iload_n 2, 1) := dk_28 (dk_at dksX0_forget_0 22 rfl rfl)
theorem dX0_forget_23 : decode cX0_forget 23 = .ok (.iconst 3, 1) := dk_6 (dk_at dksX0_forget_0 23 rfl rfl)
theorem dX0_forget_24 : decode cX0_forget 24 = .ok (.if_icmp .ge 16, 3) := dk_162 0 16 (dk_at dksX0_forget_1 0 rfl rfl)
theorem dX0_forget_27 : decode cX0_forget 27 = .ok (.aload_n 0, 1) := dk_42 (dk_at dksX0_forget_1 3 rfl rfl)
theorem dX0_forget_28 : decode cX0_forget 28 = .ok (.getfield 22, 3) := dk_180 0 22 (dk_at dksX0_forget_1 4 rfl rfl)
theorem dX0_forget_31 : decode cX0_forget 31 = .ok (.iload_n 2, 1) := dk_28 (dk_at dksX0_forget_1 7 rfl rfl)
theorem dX0_forget_32 : decode cX0_forget 32 = .ok (.iconst 0, 1) := dk_3 (dk_at dksX0_forget_1 8 rfl rfl)
theorem dX0_forget_33 : decode cX0_forget 33 = .ok (.iastore, 1) := dk_79 (dk_at dksX0_forget_1 9 rfl rfl)
theorem dX0_forget_34 : decode cX0_forget 34 = .ok (.iinc 2 1, 3) := dk_132 2 1 (dk_at dksX0_forget_1 10 rfl rfl)
theorem dX0_forget_37 : decode cX0_forget 37 = .ok (.goto (-15), 3) := dk_167 255 241 (dk_at dksX0_forget_1 13 rfl rfl)
theorem dX0_forget_40 : decode cX0_forget 40 = .ok (.return_, 1) := dk_177 (dk_at dksX0_forget_1 16 rfl rfl)
abbrev cX0_end : ByteArray := prog_1_method_22_code
def yX0_end : MethodName := ⟨RX0, "end", "()I"⟩
def dkwX0_end_1 : List UInt8 := [181, 0, 176, 27, 172]
abbrev dktX0_end_1 : List UInt8 := dkwX0_end_1 ++ []
def dkwX0_end_0 : List UInt8 := [42, 180, 0, 118, 154, 0, 6, 16, 254, 172, 42, 180, 0, 176, 60, 42, 3, 181, 0, 118, 42, 3]
abbrev dktX0_end_0 : List UInt8 := dkwX0_end_0 ++ dktX0_end_1
theorem dksX0_end_0 : cX0_end.data.toList.drop 0 = dktX0_end_0 := by decide +kernel
theorem dksX0_end_1 : cX0_end.data.toList.drop 22 = dktX0_end_1 := dk_seg dksX0_end_0 22 rfl rfl
theorem dX0_end_0 : decode cX0_end 0 = .ok (.aload_n 0, 1) := dk_42 (dk_at dksX0_end_0 0 rfl rfl)
theorem dX0_end_1 : decode cX0_end 1 = .ok (.getfield 118, 3) := dk_180 0 118 (dk_at dksX0_end_0 1 rfl rfl)
theorem dX0_end_4 : decode cX0_end 4 = .ok (.ifCond .ne 6, 3) := dk_154 0 6 (dk_at dksX0_end_0 4 rfl rfl)
theorem dX0_end_7 : decode cX0_end 7 = .ok (.bipush (-2), 2) := dk_16 254 (dk_at dksX0_end_0 7 rfl rfl)
theorem dX0_end_9 : decode cX0_end 9 = .ok (.ireturn, 1) := dk_172 (dk_at dksX0_end_0 9 rfl rfl)
theorem dX0_end_10 : decode cX0_end 10 = .ok (.aload_n 0, 1) := dk_42 (dk_at dksX0_end_0 10 rfl rfl)
theorem dX0_end_11 : decode cX0_end 11 = .ok (.getfield 176, 3) := dk_180 0 176 (dk_at dksX0_end_0 11 rfl rfl)
theorem dX0_end_14 : decode cX0_end 14 = .ok (.istore_n 1, 1) := dk_60 (dk_at dksX0_end_0 14 rfl rfl)
theorem dX0_end_15 : decode cX0_end 15 = .ok (.aload_n 0, 1) := dk_42 (dk_at dksX0_end_0 15 rfl rfl)
theorem dX0_end_16 : decode cX0_end 16 = .ok (.iconst 0, 1) := dk_3 (dk_at dksX0_end_0 16 rfl rfl)
theorem dX0_end_17 : decode cX0_end 17 = .ok (.putfield 118, 3) := dk_181 0 118 (dk_at dksX0_end_0 17 rfl rfl)
theorem dX0_end_20 : decode cX0_end 20 = .ok (.aload_n 0, 1) := dk_42 (dk_at dksX0_end_0 20 rfl rfl)
theorem dX0_end_21 : decode cX0_end 21 = .ok (.iconst 0, 1) := dk_3 (dk_at dksX0_end_0 21 rfl rfl)
theorem dX0_end_22 : decode cX0_end 22 = .ok (.putfield 176, 3) := dk_181 0 176 (dk_at dksX0_end_1 0 rfl rfl)
theorem dX0_end_25 : decode cX0_end 25 = .ok (.iload_n 1, 1) := dk_27 (dk_at dksX0_end_1 3 rfl rfl)
theorem dX0_end_26 : decode cX0_end 26 = .ok (.ireturn, 1) := dk_172 (dk_at dksX0_end_1 4 rfl rfl)
abbrev cX0_rule : ByteArray := prog_1_method_23_code
def yX0_rule : MethodName := ⟨RX0, "rule", "(I)I"⟩
def dkwX0_rule_1 : List UInt8 := [27, 50, 181, 0, 58, 28, 172]
abbrev dktX0_rule_1 : List UInt8 := dkwX0_rule_1 ++ []
def dkwX0_rule_0 : List UInt8 := [27, 3, 6, 184, 0, 101, 154, 0, 5, 2, 172, 42, 180, 0, 58, 182, 0, 179, 61, 42, 42, 180, 0, 54]
abbrev dktX0_rule_0 : List UInt8 := dkwX0_rule_0 ++ dktX0_rule_1
theorem dksX0_rule_0 : cX0_rule.data.toList.drop 0 = dktX0_rule_0 := by decide +kernel
theorem dksX0_rule_1 : cX0_rule.data.toList.drop 24 = dktX0_rule_1 := dk_seg dksX0_rule_0 24 rfl rfl
theorem dX0_rule_0 : decode cX0_rule 0 = .ok (.iload_n 1, 1) := dk_27 (dk_at dksX0_rule_0 0 rfl rfl)
theorem dX0_rule_1 : decode cX0_rule 1 = .ok (.iconst 0, 1) := dk_3 (dk_at dksX0_rule_0 1 rfl rfl)
theorem dX0_rule_2 : decode cX0_rule 2 = .ok (.iconst 3, 1) := dk_6 (dk_at dksX0_rule_0 2 rfl rfl)
theorem dX0_rule_3 : decode cX0_rule 3 = .ok (.invokestatic 101, 3) := dk_184 0 101 (dk_at dksX0_rule_0 3 rfl rfl)
theorem dX0_rule_6 : decode cX0_rule 6 = .ok (.ifCond .ne 5, 3) := dk_154 0 5 (dk_at dksX0_rule_0 6 rfl rfl)
theorem dX0_rule_9 : decode cX0_rule 9 = .ok (.iconst (-1), 1) := dk_2 (dk_at dksX0_rule_0 9 rfl rfl)
theorem dX0_rule_10 : decode cX0_rule 10 = .ok (.ireturn, 1) := dk_172 (dk_at dksX0_rule_0 10 rfl rfl)
theorem dX0_rule_11 : decode cX0_rule 11 = .ok (.aload_n 0, 1) := dk_42 (dk_at dksX0_rule_0 11 rfl rfl)
theorem dX0_rule_12 : decode cX0_rule 12 = .ok (.getfield 58, 3) := dk_180 0 58 (dk_at dksX0_rule_0 12 rfl rfl)
theorem dX0_rule_15 : decode cX0_rule 15 = .ok (.invokevirtual 179, 3) := dk_182 0 179 (dk_at dksX0_rule_0 15 rfl rfl)
theorem dX0_rule_18 : decode cX0_rule 18 = .ok (.istore_n 2, 1) := dk_61 (dk_at dksX0_rule_0 18 rfl rfl)
theorem dX0_rule_19 : decode cX0_rule 19 = .ok (.aload_n 0, 1) := dk_42 (dk_at dksX0_rule_0 19 rfl rfl)
theorem dX0_rule_20 : decode cX0_rule 20 = .ok (.aload_n 0, 1) := dk_42 (dk_at dksX0_rule_0 20 rfl rfl)
theorem dX0_rule_21 : decode cX0_rule 21 = .ok (.getfield 54, 3) := dk_180 0 54 (dk_at dksX0_rule_0 21 rfl rfl)
theorem dX0_rule_24 : decode cX0_rule 24 = .ok (.iload_n 1, 1) := dk_27 (dk_at dksX0_rule_1 0 rfl rfl)
theorem dX0_rule_25 : decode cX0_rule 25 = .ok (.aaload, 1) := dk_50 (dk_at dksX0_rule_1 1 rfl rfl)
theorem dX0_rule_26 : decode cX0_rule 26 = .ok (.putfield 58, 3) := dk_181 0 58 (dk_at dksX0_rule_1 2 rfl rfl)
theorem dX0_rule_29 : decode cX0_rule 29 = .ok (.iload_n 2, 1) := dk_28 (dk_at dksX0_rule_1 5 rfl rfl)
theorem dX0_rule_30 : decode cX0_rule 30 = .ok (.ireturn, 1) := dk_172 (dk_at dksX0_rule_1 6 rfl rfl)
abbrev cX0_call : ByteArray := prog_1_method_26_code
def yX0_call : MethodName := ⟨RX0, "call", "(I)I"⟩
def dkwX0_call_0 : List UInt8 := [42, 27, 182, 0, 194, 61, 28, 154, 0, 11, 42, 27, 182, 0, 197, 167, 0, 4, 28, 172]
abbrev dktX0_call_0 : List UInt8 := dkwX0_call_0 ++ []
theorem dksX0_call_0 : cX0_call.data.toList.drop 0 = dktX0_call_0 := by decide +kernel
theorem dX0_call_0 : decode cX0_call 0 = .ok (.aload_n 0, 1) := dk_42 (dk_at dksX0_call_0 0 rfl rfl)
theorem dX0_call_1 : decode cX0_call 1 = .ok (.iload_n 1, 1) := dk_27 (dk_at dksX0_call_0 1 rfl rfl)
theorem dX0_call_2 : decode cX0_call 2 = .ok (.invokevirtual 194, 3) := dk_182 0 194 (dk_at dksX0_call_0 2 rfl rfl)
theorem dX0_call_5 : decode cX0_call 5 = .ok (.istore_n 2, 1) := dk_61 (dk_at dksX0_call_0 5 rfl rfl)
theorem dX0_call_6 : decode cX0_call 6 = .ok (.iload_n 2, 1) := dk_28 (dk_at dksX0_call_0 6 rfl rfl)
theorem dX0_call_7 : decode cX0_call 7 = .ok (.ifCond .ne 11, 3) := dk_154 0 11 (dk_at dksX0_call_0 7 rfl rfl)
theorem dX0_call_10 : decode cX0_call 10 = .ok (.aload_n 0, 1) := dk_42 (dk_at dksX0_call_0 10 rfl rfl)
theorem dX0_call_11 : decode cX0_call 11 = .ok (.iload_n 1, 1) := dk_27 (dk_at dksX0_call_0 11 rfl rfl)
theorem dX0_call_12 : decode cX0_call 12 = .ok (.invokevirtual 197, 3) := dk_182 0 197 (dk_at dksX0_call_0 12 rfl rfl)
theorem dX0_call_15 : decode cX0_call 15 = .ok (.goto 4, 3) := dk_167 0 4 (dk_at dksX0_call_0 15 rfl rfl)
theorem dX0_call_18 : decode cX0_call 18 = .ok (.iload_n 2, 1) := dk_28 (dk_at dksX0_call_0 18 rfl rfl)
theorem dX0_call_19 : decode cX0_call 19 = .ok (.ireturn, 1) := dk_172 (dk_at dksX0_call_0 19 rfl rfl)
abbrev cX0_againstCall : ByteArray := prog_1_method_25_code
def yX0_againstCall : MethodName := ⟨RX0, "againstCall", "(I)I"⟩
def dkwX0_againstCall_1 : List UInt8 := [180, 0, 176, 16, 12, 160, 0, 8, 16, 253, 167, 0, 4, 3, 172]
abbrev dktX0_againstCall_1 : List UInt8 := dkwX0_againstCall_1 ++ []
def dkwX0_againstCall_0 : List UInt8 := [42, 27, 182, 0, 124, 154, 0, 5, 2, 172, 42, 180, 0, 118, 154, 0, 8, 16, 254, 167, 0, 18, 42]
abbrev dktX0_againstCall_0 : List UInt8 := dkwX0_againstCall_0 ++ dktX0_againstCall_1
theorem dksX0_againstCall_0 : cX0_againstCall.data.toList.drop 0 = dktX0_againstCall_0 := by decide +kernel
theorem dksX0_againstCall_1 : cX0_againstCall.data.toList.drop 23 = dktX0_againstCall_1 := dk_seg dksX0_againstCall_0 23 rfl rfl
theorem dX0_againstCall_0 : decode cX0_againstCall 0 = .ok (.aload_n 0, 1) := dk_42 (dk_at dksX0_againstCall_0 0 rfl rfl)
theorem dX0_againstCall_1 : decode cX0_againstCall 1 = .ok (.iload_n 1, 1) := dk_27 (dk_at dksX0_againstCall_0 1 rfl rfl)
theorem dX0_againstCall_2 : decode cX0_againstCall 2 = .ok (.invokevirtual 124, 3) := dk_182 0 124 (dk_at dksX0_againstCall_0 2 rfl rfl)
theorem dX0_againstCall_5 : decode cX0_againstCall 5 = .ok (.ifCond .ne 5, 3) := dk_154 0 5 (dk_at dksX0_againstCall_0 5 rfl rfl)
theorem dX0_againstCall_8 : decode cX0_againstCall 8 = .ok (.iconst (-1), 1) := dk_2 (dk_at dksX0_againstCall_0 8 rfl rfl)
theorem dX0_againstCall_9 : decode cX0_againstCall 9 = .ok (.ireturn, 1) := dk_172 (dk_at dksX0_againstCall_0 9 rfl rfl)
theorem dX0_againstCall_10 : decode cX0_againstCall 10 = .ok (.aload_n 0, 1) := dk_42 (dk_at dksX0_againstCall_0 10 rfl rfl)
theorem dX0_againstCall_11 : decode cX0_againstCall 11 = .ok (.getfield 118, 3) := dk_180 0 118 (dk_at dksX0_againstCall_0 11 rfl rfl)
theorem dX0_againstCall_14 : decode cX0_againstCall 14 = .ok (.ifCond .ne 8, 3) := dk_154 0 8 (dk_at dksX0_againstCall_0 14 rfl rfl)
theorem dX0_againstCall_17 : decode cX0_againstCall 17 = .ok (.bipush (-2), 2) := dk_16 254 (dk_at dksX0_againstCall_0 17 rfl rfl)
theorem dX0_againstCall_19 : decode cX0_againstCall 19 = .ok (.goto 18, 3) := dk_167 0 18 (dk_at dksX0_againstCall_0 19 rfl rfl)
theorem dX0_againstCall_22 : decode cX0_againstCall 22 = .ok (.aload_n 0, 1) := dk_42 (dk_at dksX0_againstCall_0 22 rfl rfl)
theorem dX0_againstCall_23 : decode cX0_againstCall 23 = .ok (.getfield 176, 3) := dk_180 0 176 (dk_at dksX0_againstCall_1 0 rfl rfl)
theorem dX0_againstCall_26 : decode cX0_againstCall 26 = .ok (.bipush 12, 2) := dk_16 12 (dk_at dksX0_againstCall_1 3 rfl rfl)
theorem dX0_againstCall_28 : decode cX0_againstCall 28 = .ok (.if_icmp .ne 8, 3) := dk_160 0 8 (dk_at dksX0_againstCall_1 5 rfl rfl)
theorem dX0_againstCall_31 : decode cX0_againstCall 31 = .ok (.bipush (-3), 2) := dk_16 253 (dk_at dksX0_againstCall_1 8 rfl rfl)
theorem dX0_againstCall_33 : decode cX0_againstCall 33 = .ok (.goto 4, 3) := dk_167 0 4 (dk_at dksX0_againstCall_1 10 rfl rfl)
theorem dX0_againstCall_36 : decode cX0_againstCall 36 = .ok (.iconst 0, 1) := dk_3 (dk_at dksX0_againstCall_1 13 rfl rfl)
theorem dX0_againstCall_37 : decode cX0_againstCall 37 = .ok (.ireturn, 1) := dk_172 (dk_at dksX0_againstCall_1 14 rfl rfl)
abbrev cX0_serve : ByteArray := prog_1_method_24_code
def yX0_serve : MethodName := ⟨RX0, "serve", "(I)I"⟩
def dkwX0_serve_7 : List UInt8 := [181, 0, 176, 29, 172]
abbrev dktX0_serve_7 : List UInt8 := dkwX0_serve_7 ++ []
def dkwX0_serve_6 : List UInt8 := [184, 0, 149, 181, 0, 170, 42, 180, 0, 58, 29, 21, 4, 182, 0, 191, 42, 89, 180, 0, 176, 4, 96]
abbrev dktX0_serve_6 : List UInt8 := dkwX0_serve_6 ++ dktX0_serve_7
def dkwX0_serve_5 : List UInt8 := [46, 42, 42, 180, 0, 170, 29, 184, 0, 132, 27, 182, 0, 115, 96, 79, 42, 42, 180, 0, 170, 29, 27]
abbrev dktX0_serve_5 : List UInt8 := dkwX0_serve_5 ++ dktX0_serve_6
def dkwX0_serve_4 : List UInt8 := [180, 0, 58, 182, 0, 179, 79, 42, 180, 0, 37, 21, 5, 42, 180, 0, 173, 79, 42, 180, 0, 22, 29, 92]
abbrev dktX0_serve_4 : List UInt8 := dkwX0_serve_4 ++ dktX0_serve_5
def dkwX0_serve_3 : List UInt8 := [27, 182, 0, 115, 104, 42, 180, 0, 170, 29, 184, 0, 132, 96, 79, 42, 180, 0, 34, 21, 5, 42]
abbrev dktX0_serve_3 : List UInt8 := dkwX0_serve_3 ++ dktX0_serve_4
def dkwX0_serve_2 : List UInt8 := [180, 0, 28, 21, 5, 29, 79, 42, 180, 0, 31, 21, 5, 16, 8, 42, 42, 180, 0, 170, 29, 184, 0, 132]
abbrev dktX0_serve_2 : List UInt8 := dkwX0_serve_2 ++ dktX0_serve_3
def dkwX0_serve_1 : List UInt8 := [185, 0, 188, 4, 0, 54, 4, 42, 180, 0, 176, 54, 5, 42, 180, 0, 25, 21, 5, 27, 79, 42]
abbrev dktX0_serve_1 : List UInt8 := dkwX0_serve_1 ++ dktX0_serve_2
def dkwX0_serve_0 : List UInt8 := [42, 180, 0, 58, 77, 44, 27, 185, 0, 182, 2, 0, 62, 44, 42, 180, 0, 170, 42, 180, 0, 118, 27]
abbrev dktX0_serve_0 : List UInt8 := dkwX0_serve_0 ++ dktX0_serve_1
theorem dksX0_serve_0 : cX0_serve.data.toList.drop 0 = dktX0_serve_0 := by decide +kernel
theorem dksX0_serve_1 : cX0_serve.data.toList.drop 23 = dktX0_serve_1 := dk_seg dksX0_serve_0 23 rfl rfl
theorem dksX0_serve_2 : cX0_serve.data.toList.drop 45 = dktX0_serve_2 := dk_seg dksX0_serve_1 22 rfl rfl
theorem dksX0_serve_3 : cX0_serve.data.toList.drop 69 = dktX0_serve_3 := dk_seg dksX0_serve_2 24 rfl rfl
theorem dksX0_serve_4 : cX0_serve.data.toList.drop 91 = dktX0_serve_4 := dk_seg dksX0_serve_3 22 rfl rfl
theorem dksX0_serve_5 : cX0_serve.data.toList.drop 115 = dktX0_serve_5 := dk_seg dksX0_serve_4 24 rfl rfl
theorem dksX0_serve_6 : cX0_serve.data.toList.drop 138 = dktX0_serve_6 := dk_seg dksX0_serve_5 23 rfl rfl
theorem dksX0_serve_7 : cX0_serve.data.toList.drop 161 = dktX0_serve_7 := dk_seg dksX0_serve_6 23 rfl rfl
theorem dX0_serve_0 : decode cX0_serve 0 = .ok (.aload_n 0, 1) := dk_42 (dk_at dksX0_serve_0 0 rfl rfl)
theorem dX0_serve_1 : decode cX0_serve 1 = .ok (.getfield 58, 3) := dk_180 0 58 (dk_at dksX0_serve_0 1 rfl rfl)
theorem dX0_serve_4 : decode cX0_serve 4 = .ok (.astore_n 2, 1) := dk_77 (dk_at dksX0_serve_0 4 rfl rfl)
theorem dX0_serve_5 : decode cX0_serve 5 = .ok (.aload_n 2, 1) := dk_44 (dk_at dksX0_serve_0 5 rfl rfl)
theorem dX0_serve_6 : decode cX0_serve 6 = .ok (.iload_n 1, 1) := dk_27 (dk_at dksX0_serve_0 6 rfl rfl)
theorem dX0_serve_7 : decode cX0_serve 7 = .ok (.invokeinterface 182 2, 5) := by decide +kernel
theorem dX0_serve_12 : decode cX0_serve 12 = .ok (.istore_n 3, 1) := dk_62 (dk_at dksX0_serve_0 12 rfl rfl)
theorem dX0_serve_13 : decode cX0_serve 13 = .ok (.aload_n 2, 1) := dk_44 (dk_at dksX0_serve_0 13 rfl rfl)
theorem dX0_serve_14 : decode cX0_serve 14 = .ok (.aload_n 0, 1) := dk_42 (dk_at dksX0_serve_0 14 rfl rfl)
theorem dX0_serve_15 : decode cX0_serve 15 = .ok (.getfield 170, 3) := dk_180 0 170 (dk_at dksX0_serve_0 15 rfl rfl)
theorem dX0_serve_18 : decode cX0_serve 18 = .ok (.aload_n 0, 1) := dk_42 (dk_at dksX0_serve_0 18 rfl rfl)
theorem dX0_serve_19 : decode cX0_serve 19 = .ok (.getfield 118, 3) := dk_180 0 118 (dk_at dksX0_serve_0 19 rfl rfl)
theorem dX0_serve_22 : decode cX0_serve 22 = .ok (.iload_n 1, 1) := dk_27 (dk_at dksX0_serve_0 22 rfl rfl)
theorem dX0_serve_23 : decode cX0_serve 23 = .ok (.invokeinterface 188 4, 5) := by decide +kernel
theorem dX0_serve_28 : decode cX0_serve 28 = .ok (.istore 4, 2) := dk_54 4 (dk_at dksX0_serve_1 5 rfl rfl)
theorem dX0_serve_30 : decode cX0_serve 30 = .ok (.aload_n 0, 1) := dk_42 (dk_at dksX0_serve_1 7 rfl rfl)
theorem dX0_serve_31 : decode cX0_serve 31 = .ok (.getfield 176, 3) := dk_180 0 176 (dk_at dksX0_serve_1 8 rfl rfl)
theorem dX0_serve_34 : decode cX0_serve 34 = .ok (.istore 5, 2) := dk_54 5 (dk_at dksX0_serve_1 11 rfl rfl)
theorem dX0_serve_36 : decode cX0_serve 36 = .ok (.aload_n 0, 1) := dk_42 (dk_at dksX0_serve_1 13 rfl rfl)
theorem dX0_serve_37 : decode cX0_serve 37 = .ok (.getfield 25, 3) := dk_180 0 25 (dk_at dksX0_serve_1 14 rfl rfl)
theorem dX0_serve_40 : decode cX0_serve 40 = .ok (.iload 5, 2) := dk_21 5 (dk_at dksX0_serve_1 17 rfl rfl)
theorem dX0_serve_42 : decode cX0_serve 42 = .ok (.iload_n 1, 1) := dk_27 (dk_at dksX0_serve_1 19 rfl rfl)
theorem dX0_serve_43 : decode cX0_serve 43 = .ok (.iastore, 1) := dk_79 (dk_at dksX0_serve_1 20 rfl rfl)
theorem dX0_serve_44 : decode cX0_serve 44 = .ok (.aload_n 0, 1) := dk_42 (dk_at dksX0_serve_1 21 rfl rfl)
theorem dX0_serve_45 : decode cX0_serve 45 = .ok (.getfield 28, 3) := dk_180 0 28 (dk_at dksX0_serve_2 0 rfl rfl)
theorem dX0_serve_48 : decode cX0_serve 48 = .ok (.iload 5, 2) := dk_21 5 (dk_at dksX0_serve_2 3 rfl rfl)
theorem dX0_serve_50 : decode cX0_serve 50 = .ok (.iload_n 3, 1) := dk_29 (dk_at dksX0_serve_2 5 rfl rfl)
theorem dX0_serve_51 : decode cX0_serve 51 = .ok (.iastore, 1) := dk_79 (dk_at dksX0_serve_2 6 rfl rfl)
theorem dX0_serve_52 : decode cX0_serve 52 = .ok (.aload_n 0, 1) := dk_42 (dk_at dksX0_serve_2 7 rfl rfl)
theorem dX0_serve_53 : decode cX0_serve 53 = .ok (.getfield 31, 3) := dk_180 0 31 (dk_at dksX0_serve_2 8 rfl rfl)
theorem dX0_serve_56 : decode cX0_serve 56 = .ok (.iload 5, 2) := dk_21 5 (dk_at dksX0_serve_2 11 rfl rfl)
theorem dX0_serve_58 : decode cX0_serve 58 = .ok (.bipush 8, 2) := dk_16 8 (dk_at dksX0_serve_2 13 rfl rfl)
theorem dX0_serve_60 : decode cX0_serve 60 = .ok (.aload_n 0, 1) := dk_42 (dk_at dksX0_serve_2 15 rfl rfl)
theorem dX0_serve_61 : decode cX0_serve 61 = .ok (.aload_n 0, 1) := dk_42 (dk_at dksX0_serve_2 16 rfl rfl)
theorem dX0_serve_62 : decode cX0_serve 62 = .ok (.getfield 170, 3) := dk_180 0 170 (dk_at dksX0_serve_2 17 rfl rfl)
theorem dX0_serve_65 : decode cX0_serve 65 = .ok (.iload_n 3, 1) := dk_29 (dk_at dksX0_serve_2 20 rfl rfl)
theorem dX0_serve_66 : decode cX0_serve 66 = .ok (.invokestatic 132, 3) := dk_184 0 132 (dk_at dksX0_serve_2 21 rfl rfl)
theorem dX0_serve_69 : decode cX0_serve 69 = .ok (.iload_n 1, 1) := dk_27 (dk_at dksX0_serve_3 0 rfl rfl)
theorem dX0_serve_70 : decode cX0_serve 70 = .ok (.invokevirtual 115, 3) := dk_182 0 115 (dk_at dksX0_serve_3 1 rfl rfl)
theorem dX0_serve_73 : decode cX0_serve 73 = .ok (.imul, 1) := dk_104 (dk_at dksX0_serve_3 4 rfl rfl)
theorem dX0_serve_74 : decode cX0_serve 74 = .ok (.aload_n 0, 1) := dk_42 (dk_at dksX0_serve_3 5 rfl rfl)
theorem dX0_serve_75 : decode cX0_serve 75 = .ok (.getfield 170, 3) := dk_180 0 170 (dk_at dksX0_serve_3 6 rfl rfl)
theorem dX0_serve_78 : decode cX0_serve 78 = .ok (.iload_n 3, 1) := dk_29 (dk_at dksX0_serve_3 9 rfl rfl)
theorem dX0_serve_79 : decode cX0_serve 79 = .ok (.invokestatic 132, 3) := dk_184 0 132 (dk_at dksX0_serve_3 10 rfl rfl)
theorem dX0_serve_82 : decode cX0_serve 82 = .ok (.iadd, 1) := dk_96 (dk_at dksX0_serve_3 13 rfl rfl)
theorem dX0_serve_83 : decode cX0_serve 83 = .ok (.iastore, 1) := dk_79 (dk_at dksX0_serve_3 14 rfl rfl)
theorem dX0_serve_84 : decode cX0_serve 84 = .ok (.aload_n 0, 1) := dk_42 (dk_at dksX0_serve_3 15 rfl rfl)
theorem dX0_serve_85 : decode cX0_serve 85 = .ok (.getfield 34, 3) := dk_180 0 34 (dk_at dksX0_serve_3 16 rfl rfl)
theorem dX0_serve_88 : decode cX0_serve 88 = .ok (.iload 5, 2) := dk_21 5 (dk_at dksX0_serve_3 19 rfl rfl)
theorem dX0_serve_90 : decode cX0_serve 90 = .ok (.aload_n 0, 1) := dk_42 (dk_at dksX0_serve_3 21 rfl rfl)
theorem dX0_serve_91 : decode cX0_serve 91 = .ok (.getfield 58, 3) := dk_180 0 58 (dk_at dksX0_serve_4 0 rfl rfl)
theorem dX0_serve_94 : decode cX0_serve 94 = .ok (.invokevirtual 179, 3) := dk_182 0 179 (dk_at dksX0_serve_4 3 rfl rfl)
theorem dX0_serve_97 : decode cX0_serve 97 = .ok (.iastore, 1) := dk_79 (dk_at dksX0_serve_4 6 rfl rfl)
theorem dX0_serve_98 : decode cX0_serve 98 = .ok (.aload_n 0, 1) := dk_42 (dk_at dksX0_serve_4 7 rfl rfl)
theorem dX0_serve_99 : decode cX0_serve 99 = .ok (.getfield 37, 3) := dk_180 0 37 (dk_at dksX0_serve_4 8 rfl rfl)
theorem dX0_serve_102 : decode cX0_serve 102 = .ok (.iload 5, 2) := dk_21 5 (dk_at dksX0_serve_4 11 rfl rfl)
theorem dX0_serve_104 : decode cX0_serve 104 = .ok (.aload_n 0, 1) := dk_42 (dk_at dksX0_serve_4 13 rfl rfl)
theorem dX0_serve_105 : decode cX0_serve 105 = .ok (.getfield 173, 3) := dk_180 0 173 (dk_at dksX0_serve_4 14 rfl rfl)
theorem dX0_serve_108 : decode cX0_serve 108 = .ok (.iastore, 1) := dk_79 (dk_at dksX0_serve_4 17 rfl rfl)
theorem dX0_serve_109 : decode cX0_serve 109 = .ok (.aload_n 0, 1) := dk_42 (dk_at dksX0_serve_4 18 rfl rfl)
theorem dX0_serve_110 : decode cX0_serve 110 = .ok (.getfield 22, 3) := dk_180 0 22 (dk_at dksX0_serve_4 19 rfl rfl)
theorem dX0_serve_113 : decode cX0_serve 113 = .ok (.iload_n 3, 1) := dk_29 (dk_at dksX0_serve_4 22 rfl rfl)
theorem dX0_serve_114 : decode cX0_serve 114 = .ok (.dup2, 1) := dk_92 (dk_at dksX0_serve_4 23 rfl rfl)
theorem dX0_serve_115 : decode cX0_serve 115 = .ok (.iaload, 1) := dk_46 (dk_at dksX0_serve_5 0 rfl rfl)
theorem dX0_serve_116 : decode cX0_serve 116 = .ok (.aload_n 0, 1) := dk_42 (dk_at dksX0_serve_5 1 rfl rfl)
theorem dX0_serve_117 : decode cX0_serve 117 = .ok (.aload_n 0, 1) := dk_42 (dk_at dksX0_serve_5 2 rfl rfl)
theorem dX0_serve_118 : decode cX0_serve 118 = .ok (.getfield 170, 3) := dk_180 0 170 (dk_at dksX0_serve_5 3 rfl rfl)
theorem dX0_serve_121 : decode cX0_serve 121 = .ok (.iload_n 3, 1) := dk_29 (dk_at dksX0_serve_5 6 rfl rfl)
theorem dX0_serve_122 : decode cX0_serve 122 = .ok (.invokestatic 132, 3) := dk_184 0 132 (dk_at dksX0_serve_5 7 rfl rfl)
theorem dX0_serve_125 : decode cX0_serve 125 = .ok (.iload_n 1, 1) := dk_27 (dk_at dksX0_serve_5 10 rfl rfl)
theorem dX0_serve_126 : decode cX0_serve 126 = .ok (.invokevirtual 115, 3) := dk_182 0 115 (dk_at dksX0_serve_5 11 rfl rfl)
theorem dX0_serve_129 : decode cX0_serve 129 = .ok (.iadd, 1) := dk_96 (dk_at dksX0_serve_5 14 rfl rfl)
theorem dX0_serve_130 : decode cX0_serve 130 = .ok (.iastore, 1) := dk_79 (dk_at dksX0_serve_5 15 rfl rfl)
theorem dX0_serve_131 : decode cX0_serve 131 = .ok (.aload_n 0, 1) := dk_42 (dk_at dksX0_serve_5 16 rfl rfl)
theorem dX0_serve_132 : decode cX0_serve 132 = .ok (.aload_n 0, 1) := dk_42 (dk_at dksX0_serve_5 17 rfl rfl)
theorem dX0_serve_133 : decode cX0_serve 133 = .ok (.getfield 170, 3) := dk_180 0 170 (dk_at dksX0_serve_5 18 rfl rfl)
theorem dX0_serve_136 : decode cX0_serve 136 = .ok (.iload_n 3, 1) := dk_29 (dk_at dksX0_serve_5 21 rfl rfl)
theorem dX0_serve_137 : decode cX0_serve 137 = .ok (.iload_n 1, 1) := dk_27 (dk_at dksX0_serve_5 22 rfl rfl)
theorem dX0_serve_138 : decode cX0_serve 138 = .ok (.invokestatic 149, 3) := dk_184 0 149 (dk_at dksX0_serve_6 0 rfl rfl)
theorem dX0_serve_141 : decode cX0_serve 141 = .ok (.putfield 170, 3) := dk_181 0 170 (dk_at dksX0_serve_6 3 rfl rfl)
theorem dX0_serve_144 : decode cX0_serve 144 = .ok (.aload_n 0, 1) := dk_42 (dk_at dksX0_serve_6 6 rfl rfl)
theorem dX0_serve_145 : decode cX0_serve 145 = .ok (.getfield 58, 3) := dk_180 0 58 (dk_at dksX0_serve_6 7 rfl rfl)
theorem dX0_serve_148 : decode cX0_serve 148 = .ok (.iload_n 3, 1) := dk_29 (dk_at dksX0_serve_6 10 rfl rfl)
theorem dX0_serve_149 : decode cX0_serve 149 = .ok (.iload 4, 2) := dk_21 4 (dk_at dksX0_serve_6 11 rfl rfl)
theorem dX0_serve_151 : decode cX0_serve 151 = .ok (.invokevirtual 191, 3) := dk_182 0 191 (dk_at dksX0_serve_6 13 rfl rfl)
theorem dX0_serve_154 : decode cX0_serve 154 = .ok (.aload_n 0, 1) := dk_42 (dk_at dksX0_serve_6 16 rfl rfl)
theorem dX0_serve_155 : decode cX0_serve 155 = .ok (.dup, 1) := dk_89 (dk_at dksX0_serve_6 17 rfl rfl)
theorem dX0_serve_156 : decode cX0_serve 156 = .ok (.getfield 176, 3) := dk_180 0 176 (dk_at dksX0_serve_6 18 rfl rfl)
theorem dX0_serve_159 : decode cX0_serve 159 = .ok (.iconst 1, 1) := dk_4 (dk_at dksX0_serve_6 21 rfl rfl)
theorem dX0_serve_160 : decode cX0_serve 160 = .ok (.iadd, 1) := dk_96 (dk_at dksX0_serve_6 22 rfl rfl)
theorem dX0_serve_161 : decode cX0_serve 161 = .ok (.putfield 176, 3) := dk_181 0 176 (dk_at dksX0_serve_7 0 rfl rfl)
theorem dX0_serve_164 : decode cX0_serve 164 = .ok (.iload_n 3, 1) := dk_29 (dk_at dksX0_serve_7 3 rfl rfl)
theorem dX0_serve_165 : decode cX0_serve 165 = .ok (.ireturn, 1) := dk_172 (dk_at dksX0_serve_7 4 rfl rfl)
abbrev cX0_workOf : ByteArray := prog_1_method_17_code
def yX0_workOf : MethodName := ⟨RX0, "workOf", "(I)[I"⟩
def dkwX0_workOf_7 : List UInt8 := [180, 0, 62, 3, 42, 182, 0, 139, 184, 0, 152, 132, 2, 1, 167, 255, 127, 42, 180, 0, 62, 176]
abbrev dktX0_workOf_7 : List UInt8 := dkwX0_workOf_7 ++ []
def dkwX0_workOf_6 : List UInt8 := [184, 0, 109, 79, 132, 5, 1, 167, 255, 192, 132, 4, 1, 167, 255, 165, 42, 180, 0, 65, 3, 42]
abbrev dktX0_workOf_6 : List UInt8 := dkwX0_workOf_6 ++ dktX0_workOf_7
def dkwX0_workOf_5 : List UInt8 := [21, 4, 21, 5, 29, 184, 0, 149, 46, 42, 29, 21, 4, 21, 5, 184, 0, 132, 182, 0, 115, 96]
abbrev dktX0_workOf_5 : List UInt8 := dkwX0_workOf_5 ++ dktX0_workOf_6
def dkwX0_workOf_4 : List UInt8 := [182, 0, 143, 153, 0, 52, 42, 180, 0, 65, 21, 4, 42, 180, 0, 65, 21, 4, 46, 42, 180, 0, 62]
abbrev dktX0_workOf_4 : List UInt8 := dkwX0_workOf_4 ++ dktX0_workOf_5
def dkwX0_workOf_3 : List UInt8 := [42, 180, 0, 65, 21, 4, 18, 105, 79, 3, 54, 5, 21, 5, 42, 180, 0, 118, 162, 0, 61, 42, 21, 4]
abbrev dktX0_workOf_3 : List UInt8 := dkwX0_workOf_3 ++ dktX0_workOf_4
def dkwX0_workOf_2 : List UInt8 := [28, 27, 162, 0, 130, 42, 180, 0, 25, 28, 46, 62, 3, 54, 4, 21, 4, 42, 182, 0, 139, 162, 0, 88]
abbrev dktX0_workOf_2 : List UInt8 := dkwX0_workOf_2 ++ dktX0_workOf_3
def dkwX0_workOf_1 : List UInt8 := [42, 180, 0, 146, 28, 3, 3, 182, 0, 135, 167, 0, 5, 18, 105, 79, 132, 2, 1, 167, 255, 215, 3, 61]
abbrev dktX0_workOf_1 : List UInt8 := dkwX0_workOf_1 ++ dktX0_workOf_2
def dkwX0_workOf_0 : List UInt8 := [3, 61, 28, 42, 182, 0, 139, 162, 0, 39, 42, 180, 0, 62, 28, 42, 28, 182, 0, 143, 153, 0, 17, 42]
abbrev dktX0_workOf_0 : List UInt8 := dkwX0_workOf_0 ++ dktX0_workOf_1
theorem dksX0_workOf_0 : cX0_workOf.data.toList.drop 0 = dktX0_workOf_0 := by decide +kernel
theorem dksX0_workOf_1 : cX0_workOf.data.toList.drop 24 = dktX0_workOf_1 := dk_seg dksX0_workOf_0 24 rfl rfl
theorem dksX0_workOf_2 : cX0_workOf.data.toList.drop 48 = dktX0_workOf_2 := dk_seg dksX0_workOf_1 24 rfl rfl
theorem dksX0_workOf_3 : cX0_workOf.data.toList.drop 72 = dktX0_workOf_3 := dk_seg dksX0_workOf_2 24 rfl rfl
theorem dksX0_workOf_4 : cX0_workOf.data.toList.drop 96 = dktX0_workOf_4 := dk_seg dksX0_workOf_3 24 rfl rfl
theorem dksX0_workOf_5 : cX0_workOf.data.toList.drop 119 = dktX0_workOf_5 := dk_seg dksX0_workOf_4 23 rfl rfl
theorem dksX0_workOf_6 : cX0_workOf.data.toList.drop 141 = dktX0_workOf_6 := dk_seg dksX0_workOf_5 22 rfl rfl
theorem dksX0_workOf_7 : cX0_workOf.data.toList.drop 163 = dktX0_workOf_7 := dk_seg dksX0_workOf_6 22 rfl rfl
theorem dX0_workOf_0 : decode cX0_workOf 0 = .ok (.iconst 0, 1) := dk_3 (dk_at dksX0_workOf_0 0 rfl rfl)
theorem dX0_workOf_1 : decode cX0_workOf 1 = .ok (.istore_n 2, 1) := dk_61 (dk_at dksX0_workOf_0 1 rfl rfl)
theorem dX0_workOf_2 : decode cX0_workOf 2 = .ok (.iload_n 2, 1) := dk_28 (dk_at dksX0_workOf_0 2 rfl rfl)
theorem dX0_workOf_3 : decode cX0_workOf 3 = .ok (.aload_n 0, 1) := dk_42 (dk_at dksX0_workOf_0 3 rfl rfl)
theorem dX0_workOf_4 : decode cX0_workOf 4 = .ok (.invokevirtual 139, 3) := dk_182 0 139 (dk_at dksX0_workOf_0 4 rfl rfl)
theorem dX0_workOf_7 : decode cX0_workOf 7 = .ok (.if_icmp .ge 39, 3) := dk_162 0 39 (dk_at dksX0_workOf_0 7 rfl rfl)
theorem dX0_workOf_10 : decode cX0_workOf 10 = .ok (.aload_n 0, 1) := dk_42 (dk_at dksX0_workOf_0 10 rfl rfl)
theorem dX0_workOf_11 : decode cX0_workOf 11 = .ok (.getfield 62, 3) := dk_180 0 62 (dk_at dksX0_workOf_0 11 rfl rfl)
theorem dX0_workOf_14 : decode cX0_workOf 14 = .ok (.iload_n 2, 1) := dk_28 (dk_at dksX0_workOf_0 14 rfl rfl)
theorem dX0_workOf_15 : decode cX0_workOf 15 = .ok (.aload_n 0, 1) := dk_42 (dk_at dksX0_workOf_0 15 rfl rfl)
theorem dX0_workOf_16 : decode cX0_workOf 16 = .ok (.iload_n 2, 1) := dk_28 (dk_at dksX0_workOf_0 16 rfl rfl)
theorem dX0_workOf_17 : decode cX0_workOf 17 = .ok (.invokevirtual 143, 3) := dk_182 0 143 (dk_at dksX0_workOf_0 17 rfl rfl)
theorem dX0_workOf_20 : decode cX0_workOf 20 = .ok (.ifCond .eq 17, 3) := dk_153 0 17 (dk_at dksX0_workOf_0 20 rfl rfl)
theorem dX0_workOf_23 : decode cX0_workOf 23 = .ok (.aload_n 0, 1) := dk_42 (dk_at dksX0_workOf_0 23 rfl rfl)
theorem dX0_workOf_24 : decode cX0_workOf 24 = .ok (.aload_n 0, 1) := dk_42 (dk_at dksX0_workOf_1 0 rfl rfl)
theorem dX0_workOf_25 : decode cX0_workOf 25 = .ok (.getfield 146, 3) := dk_180 0 146 (dk_at dksX0_workOf_1 1 rfl rfl)
theorem dX0_workOf_28 : decode cX0_workOf 28 = .ok (.iload_n 2, 1) := dk_28 (dk_at dksX0_workOf_1 4 rfl rfl)
theorem dX0_workOf_29 : decode cX0_workOf 29 = .ok (.iconst 0, 1) := dk_3 (dk_at dksX0_workOf_1 5 rfl rfl)
theorem dX0_workOf_30 : decode cX0_workOf 30 = .ok (.iconst 0, 1) := dk_3 (dk_at dksX0_workOf_1 6 rfl rfl)
theorem dX0_workOf_31 : decode cX0_workOf 31 = .ok (.invokevirtual 135, 3) := dk_182 0 135 (dk_at dksX0_workOf_1 7 rfl rfl)
theorem dX0_workOf_34 : decode cX0_workOf 34 = .ok (.goto 5, 3) := dk_167 0 5 (dk_at dksX0_workOf_1 10 rfl rfl)
theorem dX0_workOf_37 : decode cX0_workOf 37 = .ok (.ldc 105, 2) := dk_18 105 (dk_at dksX0_workOf_1 13 rfl rfl)
theorem dX0_workOf_39 : decode cX0_workOf 39 = .ok (.iastore, 1) := dk_79 (dk_at dksX0_workOf_1 15 rfl rfl)
theorem dX0_workOf_40 : decode cX0_workOf 40 = .ok (.iinc 2 1, 3) := dk_132 2 1 (dk_at dksX0_workOf_1 16 rfl rfl)
theorem dX0_workOf_43 : decode cX0_workOf 43 = .ok (.goto (-41), 3) := dk_167 255 215 (dk_at dksX0_workOf_1 19 rfl rfl)
theorem dX0_workOf_46 : decode cX0_workOf 46 = .ok (.iconst 0, 1) := dk_3 (dk_at dksX0_workOf_1 22 rfl rfl)
theorem dX0_workOf_47 : decode cX0_workOf 47 = .ok (.istore_n 2, 1) := dk_61 (dk_at dksX0_workOf_1 23 rfl rfl)
theorem dX0_workOf_48 : decode cX0_workOf 48 = .ok (.iload_n 2, 1) := dk_28 (dk_at dksX0_workOf_2 0 rfl rfl)
theorem dX0_workOf_49 : decode cX0_workOf 49 = .ok (.iload_n 1, 1) := dk_27 (dk_at dksX0_workOf_2 1 rfl rfl)
theorem dX0_workOf_50 : decode cX0_workOf 50 = .ok (.if_icmp .ge 130, 3) := dk_162 0 130 (dk_at dksX0_workOf_2 2 rfl rfl)
theorem dX0_workOf_53 : decode cX0_workOf 53 = .ok (.aload_n 0, 1) := dk_42 (dk_at dksX0_workOf_2 5 rfl rfl)
theorem dX0_workOf_54 : decode cX0_workOf 54 = .ok (.getfield 25, 3) := dk_180 0 25 (dk_at dksX0_workOf_2 6 rfl rfl)
theorem dX0_workOf_57 : decode cX0_workOf 57 = .ok (.iload_n 2, 1) := dk_28 (dk_at dksX0_workOf_2 9 rfl rfl)
theorem dX0_workOf_58 : decode cX0_workOf 58 = .ok (.iaload, 1) := dk_46 (dk_at dksX0_workOf_2 10 rfl rfl)
theorem dX0_workOf_59 : decode cX0_workOf 59 = .ok (.istore_n 3, 1) := dk_62 (dk_at dksX0_workOf_2 11 rfl rfl)
theorem dX0_workOf_60 : decode cX0_workOf 60 = .ok (.iconst 0, 1) := dk_3 (dk_at dksX0_workOf_2 12 rfl rfl)
theorem dX0_workOf_61 : decode cX0_workOf 61 = .ok (.istore 4, 2) := dk_54 4 (dk_at dksX0_workOf_2 13 rfl rfl)
theorem dX0_workOf_63 : decode cX0_workOf 63 = .ok (.iload 4, 2) := dk_21 4 (dk_at dksX0_workOf_2 15 rfl rfl)
theorem dX0_workOf_65 : decode cX0_workOf 65 = .ok (.aload_n 0, 1) := dk_42 (dk_at dksX0_workOf_2 17 rfl rfl)
theorem dX0_workOf_66 : decode cX0_workOf 66 = .ok (.invokevirtual 139, 3) := dk_182 0 139 (dk_at dksX0_workOf_2 18 rfl rfl)
theorem dX0_workOf_69 : decode cX0_workOf 69 = .ok (.if_icmp .ge 88, 3) := dk_162 0 88 (dk_at dksX0_workOf_2 21 rfl rfl)
theorem dX0_workOf_72 : decode cX0_workOf 72 = .ok (.aload_n 0, 1) := dk_42 (dk_at dksX0_workOf_3 0 rfl rfl)
theorem dX0_workOf_73 : decode cX0_workOf 73 = .ok (.getfield 65, 3) := dk_180 0 65 (dk_at dksX0_workOf_3 1 rfl rfl)
theorem dX0_workOf_76 : decode cX0_workOf 76 = .ok (.iload 4, 2) := dk_21 4 (dk_at dksX0_workOf_3 4 rfl rfl)
theorem dX0_workOf_78 : decode cX0_workOf 78 = .ok (.ldc 105, 2) := dk_18 105 (dk_at dksX0_workOf_3 6 rfl rfl)
theorem dX0_workOf_80 : decode cX0_workOf 80 = .ok (.iastore, 1) := dk_79 (dk_at dksX0_workOf_3 8 rfl rfl)
theorem dX0_workOf_81 : decode cX0_workOf 81 = .ok (.iconst 0, 1) := dk_3 (dk_at dksX0_workOf_3 9 rfl rfl)
theorem dX0_workOf_82 : decode cX0_workOf 82 = .ok (.istore 5, 2) := dk_54 5 (dk_at dksX0_workOf_3 10 rfl rfl)
theorem dX0_workOf_84 : decode cX0_workOf 84 = .ok (.iload 5, 2) := dk_21 5 (dk_at dksX0_workOf_3 12 rfl rfl)
theorem dX0_workOf_86 : decode cX0_workOf 86 = .ok (.aload_n 0, 1) := dk_42 (dk_at dksX0_workOf_3 14 rfl rfl)
theorem dX0_workOf_87 : decode cX0_workOf 87 = .ok (.getfield 118, 3) := dk_180 0 118 (dk_at dksX0_workOf_3 15 rfl rfl)
theorem dX0_workOf_90 : decode cX0_workOf 90 = .ok (.if_icmp .ge 61, 3) := dk_162 0 61 (dk_at dksX0_workOf_3 18 rfl rfl)
theorem dX0_workOf_93 : decode cX0_workOf 93 = .ok (.aload_n 0, 1) := dk_42 (dk_at dksX0_workOf_3 21 rfl rfl)
theorem dX0_workOf_94 : decode cX0_workOf 94 = .ok (.iload 4, 2) := dk_21 4 (dk_at dksX0_workOf_3 22 rfl rfl)
theorem dX0_workOf_96 : decode cX0_workOf 96 = .ok (.invokevirtual 143, 3) := dk_182 0 143 (dk_at dksX0_workOf_4 0 rfl rfl)
theorem dX0_workOf_99 : decode cX0_workOf 99 = .ok (.ifCond .eq 52, 3) := dk_153 0 52 (dk_at dksX0_workOf_4 3 rfl rfl)
theorem dX0_workOf_102 : decode cX0_workOf 102 = .ok (.aload_n 0, 1) := dk_42 (dk_at dksX0_workOf_4 6 rfl rfl)
theorem dX0_workOf_103 : decode cX0_workOf 103 = .ok (.getfield 65, 3) := dk_180 0 65 (dk_at dksX0_workOf_4 7 rfl rfl)
theorem dX0_workOf_106 : decode cX0_workOf 106 = .ok (.iload 4, 2) := dk_21 4 (dk_at dksX0_workOf_4 10 rfl rfl)
theorem dX0_workOf_108 : decode cX0_workOf 108 = .ok (.aload_n 0, 1) := dk_42 (dk_at dksX0_workOf_4 12 rfl rfl)
theorem dX0_workOf_109 : decode cX0_workOf 109 = .ok (.getfield 65, 3) := dk_180 0 65 (dk_at dksX0_workOf_4 13 rfl rfl)
theorem dX0_workOf_112 : decode cX0_workOf 112 = .ok (.iload 4, 2) := dk_21 4 (dk_at dksX0_workOf_4 16 rfl rfl)
theorem dX0_workOf_114 : decode cX0_workOf 114 = .ok (.iaload, 1) := dk_46 (dk_at dksX0_workOf_4 18 rfl rfl)
theorem dX0_workOf_115 : decode cX0_workOf 115 = .ok (.aload_n 0, 1) := dk_42 (dk_at dksX0_workOf_4 19 rfl rfl)
theorem dX0_workOf_116 : decode cX0_workOf 116 = .ok (.getfield 62, 3) := dk_180 0 62 (dk_at dksX0_workOf_4 20 rfl rfl)
theorem dX0_workOf_119 : decode cX0_workOf 119 = .ok (.iload 4, 2) := dk_21 4 (dk_at dksX0_workOf_5 0 rfl rfl)
theorem dX0_workOf_121 : decode cX0_workOf 121 = .ok (.iload 5, 2) := dk_21 5 (dk_at dksX0_workOf_5 2 rfl rfl)
theorem dX0_workOf_123 : decode cX0_workOf 123 = .ok (.iload_n 3, 1) := dk_29 (dk_at dksX0_workOf_5 4 rfl rfl)
theorem dX0_workOf_124 : decode cX0_workOf 124 = .ok (.invokestatic 149, 3) := dk_184 0 149 (dk_at dksX0_workOf_5 5 rfl rfl)
theorem dX0_workOf_127 : decode cX0_workOf 127 = .ok (.iaload, 1) := dk_46 (dk_at dksX0_workOf_5 8 rfl rfl)
theorem dX0_workOf_128 : decode cX0_workOf 128 = .ok (.aload_n 0, 1) := dk_42 (dk_at dksX0_workOf_5 9 rfl rfl)
theorem dX0_workOf_129 : decode cX0_workOf 129 = .ok (.iload_n 3, 1) := dk_29 (dk_at dksX0_workOf_5 10 rfl rfl)
theorem dX0_workOf_130 : decode cX0_workOf 130 = .ok (.iload 4, 2) := dk_21 4 (dk_at dksX0_workOf_5 11 rfl rfl)
theorem dX0_workOf_132 : decode cX0_workOf 132 = .ok (.iload 5, 2) := dk_21 5 (dk_at dksX0_workOf_5 13 rfl rfl)
theorem dX0_workOf_134 : decode cX0_workOf 134 = .ok (.invokestatic 132, 3) := dk_184 0 132 (dk_at dksX0_workOf_5 15 rfl rfl)
theorem dX0_workOf_137 : decode cX0_workOf 137 = .ok (.invokevirtual 115, 3) := dk_182 0 115 (dk_at dksX0_workOf_5 18 rfl rfl)
theorem dX0_workOf_140 : decode cX0_workOf 140 = .ok (.iadd, 1) := dk_96 (dk_at dksX0_workOf_5 21 rfl rfl)
theorem dX0_workOf_141 : decode cX0_workOf 141 = .ok (.invokestatic 109, 3) := dk_184 0 109 (dk_at dksX0_workOf_6 0 rfl rfl)
theorem dX0_workOf_144 : decode cX0_workOf 144 = .ok (.iastore, 1) := dk_79 (dk_at dksX0_workOf_6 3 rfl rfl)
theorem dX0_workOf_145 : decode cX0_workOf 145 = .ok (.iinc 5 1, 3) := dk_132 5 1 (dk_at dksX0_workOf_6 4 rfl rfl)
theorem dX0_workOf_148 : decode cX0_workOf 148 = .ok (.goto (-64), 3) := dk_167 255 192 (dk_at dksX0_workOf_6 7 rfl rfl)
theorem dX0_workOf_151 : decode cX0_workOf 151 = .ok (.iinc 4 1, 3) := dk_132 4 1 (dk_at dksX0_workOf_6 10 rfl rfl)
theorem dX0_workOf_154 : decode cX0_workOf 154 = .ok (.goto (-91), 3) := dk_167 255 165 (dk_at dksX0_workOf_6 13 rfl rfl)
theorem dX0_workOf_157 : decode cX0_workOf 157 = .ok (.aload_n 0, 1) := dk_42 (dk_at dksX0_workOf_6 16 rfl rfl)
theorem dX0_workOf_158 : decode cX0_workOf 158 = .ok (.getfield 65, 3) := dk_180 0 65 (dk_at dksX0_workOf_6 17 rfl rfl)
theorem dX0_workOf_161 : decode cX0_workOf 161 = .ok (.iconst 0, 1) := dk_3 (dk_at dksX0_workOf_6 20 rfl rfl)
theorem dX0_workOf_162 : decode cX0_workOf 162 = .ok (.aload_n 0, 1) := dk_42 (dk_at dksX0_workOf_6 21 rfl rfl)
theorem dX0_workOf_163 : decode cX0_workOf 163 = .ok (.getfield 62, 3) := dk_180 0 62 (dk_at dksX0_workOf_7 0 rfl rfl)
theorem dX0_workOf_166 : decode cX0_workOf 166 = .ok (.iconst 0, 1) := dk_3 (dk_at dksX0_workOf_7 3 rfl rfl)
theorem dX0_workOf_167 : decode cX0_workOf 167 = .ok (.aload_n 0, 1) := dk_42 (dk_at dksX0_workOf_7 4 rfl rfl)
theorem dX0_workOf_168 : decode cX0_workOf 168 = .ok (.invokevirtual 139, 3) := dk_182 0 139 (dk_at dksX0_workOf_7 5 rfl rfl)
theorem dX0_workOf_171 : decode cX0_workOf 171 = .ok (.invokestatic 152, 3) := dk_184 0 152 (dk_at dksX0_workOf_7 8 rfl rfl)
theorem dX0_workOf_174 : decode cX0_workOf 174 = .ok (.iinc 2 1, 3) := dk_132 2 1 (dk_at dksX0_workOf_7 11 rfl rfl)
theorem dX0_workOf_177 : decode cX0_workOf 177 = .ok (.goto (-129), 3) := dk_167 255 127 (dk_at dksX0_workOf_7 14 rfl rfl)
theorem dX0_workOf_180 : decode cX0_workOf 180 = .ok (.aload_n 0, 1) := dk_42 (dk_at dksX0_workOf_7 17 rfl rfl)
theorem dX0_workOf_181 : decode cX0_workOf 181 = .ok (.getfield 62, 3) := dk_180 0 62 (dk_at dksX0_workOf_7 18 rfl rfl)
theorem dX0_workOf_184 : decode cX0_workOf 184 = .ok (.areturn, 1) := dk_176 (dk_at dksX0_workOf_7 21 rfl rfl)
abbrev cX0_standMany : ByteArray := prog_1_method_16_code
def yX0_standMany : MethodName := ⟨RX0, "standMany", "()I"⟩
def dkwX0_standMany_0 : List UInt8 := [4, 6, 42, 180, 0, 118, 104, 120, 172]
abbrev dktX0_standMany_0 : List UInt8 := dkwX0_standMany_0 ++ []
theorem dksX0_standMany_0 : cX0_standMany.data.toList.drop 0 = dktX0_standMany_0 := by decide +kernel
theorem dX0_standMany_0 : decode cX0_standMany 0 = .ok (.iconst 1, 1) := dk_4 (dk_at dksX0_standMany_0 0 rfl rfl)
theorem dX0_standMany_1 : decode cX0_standMany 1 = .ok (.iconst 3, 1) := dk_6 (dk_at dksX0_standMany_0 1 rfl rfl)
theorem dX0_standMany_2 : decode cX0_standMany 2 = .ok (.aload_n 0, 1) := dk_42 (dk_at dksX0_standMany_0 2 rfl rfl)
theorem dX0_standMany_3 : decode cX0_standMany 3 = .ok (.getfield 118, 3) := dk_180 0 118 (dk_at dksX0_standMany_0 3 rfl rfl)
theorem dX0_standMany_6 : decode cX0_standMany 6 = .ok (.imul, 1) := dk_104 (dk_at dksX0_standMany_0 6 rfl rfl)
theorem dX0_standMany_7 : decode cX0_standMany 7 = .ok (.ishl, 1) := dk_120 (dk_at dksX0_standMany_0 7 rfl rfl)
theorem dX0_standMany_8 : decode cX0_standMany 8 = .ok (.ireturn, 1) := dk_172 (dk_at dksX0_standMany_0 8 rfl rfl)
abbrev cX0_movesOf : ByteArray := prog_1_method_15_code
def yX0_movesOf : MethodName := ⟨RX0, "movesOf", "(IIII)I"⟩
def dkwX0_movesOf_3 : List UInt8 := [184, 0, 109, 54, 5, 132, 6, 1, 167, 255, 195, 21, 5, 172]
abbrev dktX0_movesOf_3 : List UInt8 := dkwX0_movesOf_3 ++ []
def dkwX0_movesOf_2 : List UInt8 := [184, 0, 132, 182, 0, 115, 42, 27, 28, 29, 4, 21, 6, 120, 128, 21, 4, 4, 96, 182, 0, 135, 96]
abbrev dktX0_movesOf_2 : List UInt8 := dkwX0_movesOf_2 ++ dktX0_movesOf_3
def dkwX0_movesOf_1 : List UInt8 := [162, 0, 58, 29, 21, 6, 122, 4, 126, 154, 0, 43, 21, 5, 42, 27, 21, 4, 184, 0, 132, 28, 21, 6]
abbrev dktX0_movesOf_1 : List UInt8 := dkwX0_movesOf_1 ++ dktX0_movesOf_2
def dkwX0_movesOf_0 : List UInt8 := [21, 4, 42, 180, 0, 118, 160, 0, 5, 3, 172, 18, 105, 54, 5, 3, 54, 6, 21, 6, 42, 180, 0, 118]
abbrev dktX0_movesOf_0 : List UInt8 := dkwX0_movesOf_0 ++ dktX0_movesOf_1
theorem dksX0_movesOf_0 : cX0_movesOf.data.toList.drop 0 = dktX0_movesOf_0 := by decide +kernel
theorem dksX0_movesOf_1 : cX0_movesOf.data.toList.drop 24 = dktX0_movesOf_1 := dk_seg dksX0_movesOf_0 24 rfl rfl
theorem dksX0_movesOf_2 : cX0_movesOf.data.toList.drop 48 = dktX0_movesOf_2 := dk_seg dksX0_movesOf_1 24 rfl rfl
theorem dksX0_movesOf_3 : cX0_movesOf.data.toList.drop 71 = dktX0_movesOf_3 := dk_seg dksX0_movesOf_2 23 rfl rfl
theorem dX0_movesOf_0 : decode cX0_movesOf 0 = .ok (.iload 4, 2) := dk_21 4 (dk_at dksX0_movesOf_0 0 rfl rfl)
theorem dX0_movesOf_2 : decode cX0_movesOf 2 = .ok (.aload_n 0, 1) := dk_42 (dk_at dksX0_movesOf_0 2 rfl rfl)
theorem dX0_movesOf_3 : decode cX0_movesOf 3 = .ok (.getfield 118, 3) := dk_180 0 118 (dk_at dksX0_movesOf_0 3 rfl rfl)
theorem dX0_movesOf_6 : decode cX0_movesOf 6 = .ok (.if_icmp .ne 5, 3) := dk_160 0 5 (dk_at dksX0_movesOf_0 6 rfl rfl)
theorem dX0_movesOf_9 : decode cX0_movesOf 9 = .ok (.iconst 0, 1) := dk_3 (dk_at dksX0_movesOf_0 9 rfl rfl)
theorem dX0_movesOf_10 : decode cX0_movesOf 10 = .ok (.ireturn, 1) := dk_172 (dk_at dksX0_movesOf_0 10 rfl rfl)
theorem dX0_movesOf_11 : decode cX0_movesOf 11 = .ok (.ldc 105, 2) := dk_18 105 (dk_at dksX0_movesOf_0 11 rfl rfl)
theorem dX0_movesOf_13 : decode cX0_movesOf 13 = .ok (.istore 5, 2) := dk_54 5 (dk_at dksX0_movesOf_0 13 rfl rfl)
theorem dX0_movesOf_15 : decode cX0_movesOf 15 = .ok (.iconst 0, 1) := dk_3 (dk_at dksX0_movesOf_0 15 rfl rfl)
theorem dX0_movesOf_16 : decode cX0_movesOf 16 = .ok (.istore 6, 2) := dk_54 6 (dk_at dksX0_movesOf_0 16 rfl rfl)
theorem dX0_movesOf_18 : decode cX0_movesOf 18 = .ok (.iload 6, 2) := dk_21 6 (dk_at dksX0_movesOf_0 18 rfl rfl)
theorem dX0_movesOf_20 : decode cX0_movesOf 20 = .ok (.aload_n 0, 1) := dk_42 (dk_at dksX0_movesOf_0 20 rfl rfl)
theorem dX0_movesOf_21 : decode cX0_movesOf 21 = .ok (.getfield 118, 3) := dk_180 0 118 (dk_at dksX0_movesOf_0 21 rfl rfl)
theorem dX0_movesOf_24 : decode cX0_movesOf 24 = .ok (.if_icmp .ge 58, 3) := dk_162 0 58 (dk_at dksX0_movesOf_1 0 rfl rfl)
theorem dX0_movesOf_27 : decode cX0_movesOf 27 = .ok (.iload_n 3, 1) := dk_29 (dk_at dksX0_movesOf_1 3 rfl rfl)
theorem dX0_movesOf_28 : decode cX0_movesOf 28 = .ok (.iload 6, 2) := dk_21 6 (dk_at dksX0_movesOf_1 4 rfl rfl)
theorem dX0_movesOf_30 : decode cX0_movesOf 30 = .ok (.ishr, 1) := dk_122 (dk_at dksX0_movesOf_1 6 rfl rfl)
theorem dX0_movesOf_31 : decode cX0_movesOf 31 = .ok (.iconst 1, 1) := dk_4 (dk_at dksX0_movesOf_1 7 rfl rfl)
theorem dX0_movesOf_32 : decode cX0_movesOf 32 = .ok (.iand, 1) := dk_126 (dk_at dksX0_movesOf_1 8 rfl rfl)
theorem dX0_movesOf_33 : decode cX0_movesOf 33 = .ok (.ifCond .ne 43, 3) := dk_154 0 43 (dk_at dksX0_movesOf_1 9 rfl rfl)
theorem dX0_movesOf_36 : decode cX0_movesOf 36 = .ok (.iload 5, 2) := dk_21 5 (dk_at dksX0_movesOf_1 12 rfl rfl)
theorem dX0_movesOf_38 : decode cX0_movesOf 38 = .ok (.aload_n 0, 1) := dk_42 (dk_at dksX0_movesOf_1 14 rfl rfl)
theorem dX0_movesOf_39 : decode cX0_movesOf 39 = .ok (.iload_n 1, 1) := dk_27 (dk_at dksX0_movesOf_1 15 rfl rfl)
theorem dX0_movesOf_40 : decode cX0_movesOf 40 = .ok (.iload 4, 2) := dk_21 4 (dk_at dksX0_movesOf_1 16 rfl rfl)
theorem dX0_movesOf_42 : decode cX0_movesOf 42 = .ok (.invokestatic 132, 3) := dk_184 0 132 (dk_at dksX0_movesOf_1 18 rfl rfl)
theorem dX0_movesOf_45 : decode cX0_movesOf 45 = .ok (.iload_n 2, 1) := dk_28 (dk_at dksX0_movesOf_1 21 rfl rfl)
theorem dX0_movesOf_46 : decode cX0_movesOf 46 = .ok (.iload 6, 2) := dk_21 6 (dk_at dksX0_movesOf_1 22 rfl rfl)
theorem dX0_movesOf_48 : decode cX0_movesOf 48 = .ok (.invokestatic 132, 3) := dk_184 0 132 (dk_at dksX0_movesOf_2 0 rfl rfl)
theorem dX0_movesOf_51 : decode cX0_movesOf 51 = .ok (.invokevirtual 115, 3) := dk_182 0 115 (dk_at dksX0_movesOf_2 3 rfl rfl)
theorem dX0_movesOf_54 : decode cX0_movesOf 54 = .ok (.aload_n 0, 1) := dk_42 (dk_at dksX0_movesOf_2 6 rfl rfl)
theorem dX0_movesOf_55 : decode cX0_movesOf 55 = .ok (.iload_n 1, 1) := dk_27 (dk_at dksX0_movesOf_2 7 rfl rfl)
theorem dX0_movesOf_56 : decode cX0_movesOf 56 = .ok (.iload_n 2, 1) := dk_28 (dk_at dksX0_movesOf_2 8 rfl rfl)
theorem dX0_movesOf_57 : decode cX0_movesOf 57 = .ok (.iload_n 3, 1) := dk_29 (dk_at dksX0_movesOf_2 9 rfl rfl)
theorem dX0_movesOf_58 : decode cX0_movesOf 58 = .ok (.iconst 1, 1) := dk_4 (dk_at dksX0_movesOf_2 10 rfl rfl)
theorem dX0_movesOf_59 : decode cX0_movesOf 59 = .ok (.iload 6, 2) := dk_21 6 (dk_at dksX0_movesOf_2 11 rfl rfl)
theorem dX0_movesOf_61 : decode cX0_movesOf 61 = .ok (.ishl, 1) := dk_120 (dk_at dksX0_movesOf_2 13 rfl rfl)
theorem dX0_movesOf_62 : decode cX0_movesOf 62 = .ok (.ior, 1) := dk_128 (dk_at dksX0_movesOf_2 14 rfl rfl)
theorem dX0_movesOf_63 : decode cX0_movesOf 63 = .ok (.iload 4, 2) := dk_21 4 (dk_at dksX0_movesOf_2 15 rfl rfl)
theorem dX0_movesOf_65 : decode cX0_movesOf 65 = .ok (.iconst 1, 1) := dk_4 (dk_at dksX0_movesOf_2 17 rfl rfl)
theorem dX0_movesOf_66 : decode cX0_movesOf 66 = .ok (.iadd, 1) := dk_96 (dk_at dksX0_movesOf_2 18 rfl rfl)
theorem dX0_movesOf_67 : decode cX0_movesOf 67 = .ok (.invokevirtual 135, 3) := dk_182 0 135 (dk_at dksX0_movesOf_2 19 rfl rfl)
theorem dX0_movesOf_70 : decode cX0_movesOf 70 = .ok (.iadd, 1) := dk_96 (dk_at dksX0_movesOf_2 22 rfl rfl)
theorem dX0_movesOf_71 : decode cX0_movesOf 71 = .ok (.invokestatic 109, 3) := dk_184 0 109 (dk_at dksX0_movesOf_3 0 rfl rfl)
theorem dX0_movesOf_74 : decode cX0_movesOf 74 = .ok (.istore 5, 2) := dk_54 5 (dk_at dksX0_movesOf_3 3 rfl rfl)
theorem dX0_movesOf_76 : decode cX0_movesOf 76 = .ok (.iinc 6 1, 3) := dk_132 6 1 (dk_at dksX0_movesOf_3 5 rfl rfl)
theorem dX0_movesOf_79 : decode cX0_movesOf 79 = .ok (.goto (-61), 3) := dk_167 255 195 (dk_at dksX0_movesOf_3 8 rfl rfl)
theorem dX0_movesOf_82 : decode cX0_movesOf 82 = .ok (.iload 5, 2) := dk_21 5 (dk_at dksX0_movesOf_3 11 rfl rfl)
theorem dX0_movesOf_84 : decode cX0_movesOf 84 = .ok (.ireturn, 1) := dk_172 (dk_at dksX0_movesOf_3 13 rfl rfl)
abbrev cX0_moved : ByteArray := prog_1_method_13_code
def yX0_moved : MethodName := ⟨RX0, "moved", "(III)I"⟩
def dkwX0_moved_0 : List UInt8 := [26, 16, 7, 6, 27, 104, 120, 2, 130, 126, 28, 6, 27, 104, 120, 128, 172]
abbrev dktX0_moved_0 : List UInt8 := dkwX0_moved_0 ++ []
theorem dksX0_moved_0 : cX0_moved.data.toList.drop 0 = dktX0_moved_0 := by decide +kernel
theorem dX0_moved_0 : decode cX0_moved 0 = .ok (.iload_n 0, 1) := dk_26 (dk_at dksX0_moved_0 0 rfl rfl)
theorem dX0_moved_1 : decode cX0_moved 1 = .ok (.bipush 7, 2) := dk_16 7 (dk_at dksX0_moved_0 1 rfl rfl)
theorem dX0_moved_3 : decode cX0_moved 3 = .ok (.iconst 3, 1) := dk_6 (dk_at dksX0_moved_0 3 rfl rfl)
theorem dX0_moved_4 : decode cX0_moved 4 = .ok (.iload_n 1, 1) := dk_27 (dk_at dksX0_moved_0 4 rfl rfl)
theorem dX0_moved_5 : decode cX0_moved 5 = .ok (.imul, 1) := dk_104 (dk_at dksX0_moved_0 5 rfl rfl)
theorem dX0_moved_6 : decode cX0_moved 6 = .ok (.ishl, 1) := dk_120 (dk_at dksX0_moved_0 6 rfl rfl)
theorem dX0_moved_7 : decode cX0_moved 7 = .ok (.iconst (-1), 1) := dk_2 (dk_at dksX0_moved_0 7 rfl rfl)
theorem dX0_moved_8 : decode cX0_moved 8 = .ok (.ixor, 1) := dk_130 (dk_at dksX0_moved_0 8 rfl rfl)
theorem dX0_moved_9 : decode cX0_moved 9 = .ok (.iand, 1) := dk_126 (dk_at dksX0_moved_0 9 rfl rfl)
theorem dX0_moved_10 : decode cX0_moved 10 = .ok (.iload_n 2, 1) := dk_28 (dk_at dksX0_moved_0 10 rfl rfl)
theorem dX0_moved_11 : decode cX0_moved 11 = .ok (.iconst 3, 1) := dk_6 (dk_at dksX0_moved_0 11 rfl rfl)
theorem dX0_moved_12 : decode cX0_moved 12 = .ok (.iload_n 1, 1) := dk_27 (dk_at dksX0_moved_0 12 rfl rfl)
theorem dX0_moved_13 : decode cX0_moved 13 = .ok (.imul, 1) := dk_104 (dk_at dksX0_moved_0 13 rfl rfl)
theorem dX0_moved_14 : decode cX0_moved 14 = .ok (.ishl, 1) := dk_120 (dk_at dksX0_moved_0 14 rfl rfl)
theorem dX0_moved_15 : decode cX0_moved 15 = .ok (.ior, 1) := dk_128 (dk_at dksX0_moved_0 15 rfl rfl)
theorem dX0_moved_16 : decode cX0_moved 16 = .ok (.ireturn, 1) := dk_172 (dk_at dksX0_moved_0 16 rfl rfl)
abbrev cX0_back : ByteArray := prog_1_method_27_code
def yX0_back : MethodName := ⟨RX0, "back", "()I"⟩
def dkwX0_back_3 : List UInt8 := [181, 0, 170, 42, 42, 180, 0, 37, 42, 180, 0, 176, 46, 181, 0, 173, 42, 180, 0, 176, 172]
abbrev dktX0_back_3 : List UInt8 := dkwX0_back_3 ++ []
def dkwX0_back_2 : List UInt8 := [108, 100, 79, 42, 42, 180, 0, 170, 27, 42, 180, 0, 31, 42, 180, 0, 176, 46, 16, 8, 112, 184, 0, 149]
abbrev dktX0_back_2 : List UInt8 := dkwX0_back_2 ++ dktX0_back_3
def dkwX0_back_1 : List UInt8 := [42, 180, 0, 176, 46, 60, 42, 180, 0, 22, 27, 92, 46, 42, 180, 0, 31, 42, 180, 0, 176, 46, 16, 8]
abbrev dktX0_back_1 : List UInt8 := dkwX0_back_1 ++ dktX0_back_2
def dkwX0_back_0 : List UInt8 := [42, 180, 0, 176, 154, 0, 6, 16, 254, 172, 42, 89, 180, 0, 176, 4, 100, 181, 0, 176, 42, 180, 0, 28]
abbrev dktX0_back_0 : List UInt8 := dkwX0_back_0 ++ dktX0_back_1
theorem dksX0_back_0 : cX0_back.data.toList.drop 0 = dktX0_back_0 := by decide +kernel
theorem dksX0_back_1 : cX0_back.data.toList.drop 24 = dktX0_back_1 := dk_seg dksX0_back_0 24 rfl rfl
theorem dksX0_back_2 : cX0_back.data.toList.drop 48 = dktX0_back_2 := dk_seg dksX0_back_1 24 rfl rfl
theorem dksX0_back_3 : cX0_back.data.toList.drop 72 = dktX0_back_3 := dk_seg dksX0_back_2 24 rfl rfl
theorem dX0_back_0 : decode cX0_back 0 = .ok (.aload_n 0, 1) := dk_42 (dk_at dksX0_back_0 0 rfl rfl)
theorem dX0_back_1 : decode cX0_back 1 = .ok (.getfield 176, 3) := dk_180 0 176 (dk_at dksX0_back_0 1 rfl rfl)
theorem dX0_back_4 : decode cX0_back 4 = .ok (.ifCond .ne 6, 3) := dk_154 0 6 (dk_at dksX0_back_0 4 rfl rfl)
theorem dX0_back_7 : decode cX0_back 7 = .ok (.bipush (-2), 2) := dk_16 254 (dk_at dksX0_back_0 7 rfl rfl)
theorem dX0_back_9 : decode cX0_back 9 = .ok (.ireturn, 1) := dk_172 (dk_at dksX0_back_0 9 rfl rfl)
theorem dX0_back_10 : decode cX0_back 10 = .ok (.aload_n 0, 1) := dk_42 (dk_at dksX0_back_0 10 rfl rfl)
theorem dX0_back_11 : decode cX0_back 11 = .ok (.dup, 1) := dk_89 (dk_at dksX0_back_0 11 rfl rfl)
theorem dX0_back_12 : decode cX0_back 12 = .ok (.getfield 176, 3) := dk_180 0 176 (dk_at dksX0_back_0 12 rfl rfl)
theorem dX0_back_15 : decode cX0_back 15 = .ok (.iconst 1, 1) := dk_4 (dk_at dksX0_back_0 15 rfl rfl)
theorem dX0_back_16 : decode cX0_back 16 = .ok (.isub, 1) := dk_100 (dk_at dksX0_back_0 16 rfl rfl)
theorem dX0_back_17 : decode cX0_back 17 = .ok (.putfield 176, 3) := dk_181 0 176 (dk_at dksX0_back_0 17 rfl rfl)
theorem dX0_back_20 : decode cX0_back 20 = .ok (.aload_n 0, 1) := dk_42 (dk_at dksX0_back_0 20 rfl rfl)
theorem dX0_back_21 : decode cX0_back 21 = .ok (.getfield 28, 3) := dk_180 0 28 (dk_at dksX0_back_0 21 rfl rfl)
theorem dX0_back_24 : decode cX0_back 24 = .ok (.aload_n 0, 1) := dk_42 (dk_at dksX0_back_1 0 rfl rfl)
theorem dX0_back_25 : decode cX0_back 25 = .ok (.getfield 176, 3) := dk_180 0 176 (dk_at dksX0_back_1 1 rfl rfl)
theorem dX0_back_28 : decode cX0_back 28 = .ok (.iaload, 1) := dk_46 (dk_at dksX0_back_1 4 rfl rfl)
theorem dX0_back_29 : decode cX0_back 29 = .ok (.istore_n 1, 1) := dk_60 (dk_at dksX0_back_1 5 rfl rfl)
theorem dX0_back_30 : decode cX0_back 30 = .ok (.aload_n 0, 1) := dk_42 (dk_at dksX0_back_1 6 rfl rfl)
theorem dX0_back_31 : decode cX0_back 31 = .ok (.getfield 22, 3) := dk_180 0 22 (dk_at dksX0_back_1 7 rfl rfl)
theorem dX0_back_34 : decode cX0_back 34 = .ok (.iload_n 1, 1) := dk_27 (dk_at dksX0_back_1 10 rfl rfl)
theorem dX0_back_35 : decode cX0_back 35 = .ok (.dup2, 1) := dk_92 (dk_at dksX0_back_1 11 rfl rfl)
theorem dX0_back_36 : decode cX0_back 36 = .ok (.iaload, 1) := dk_46 (dk_at dksX0_back_1 12 rfl rfl)
theorem dX0_back_37 : decode cX0_back 37 = .ok (.aload_n 0, 1) := dk_42 (dk_at dksX0_back_1 13 rfl rfl)
theorem dX0_back_38 : decode cX0_back 38 = .ok (.getfield 31, 3) := dk_180 0 31 (dk_at dksX0_back_1 14 rfl rfl)
theorem dX0_back_41 : decode cX0_back 41 = .ok (.aload_n 0, 1) := dk_42 (dk_at dksX0_back_1 17 rfl rfl)
theorem dX0_back_42 : decode cX0_back 42 = .ok (.getfield 176, 3) := dk_180 0 176 (dk_at dksX0_back_1 18 rfl rfl)
theorem dX0_back_45 : decode cX0_back 45 = .ok (.iaload, 1) := dk_46 (dk_at dksX0_back_1 21 rfl rfl)
theorem dX0_back_46 : decode cX0_back 46 = .ok (.bipush 8, 2) := dk_16 8 (dk_at dksX0_back_1 22 rfl rfl)
theorem dX0_back_48 : decode cX0_back 48 = .ok (.idiv, 1) := dk_108 (dk_at dksX0_back_2 0 rfl rfl)
theorem dX0_back_49 : decode cX0_back 49 = .ok (.isub, 1) := dk_100 (dk_at dksX0_back_2 1 rfl rfl)
theorem dX0_back_50 : decode cX0_back 50 = .ok (.iastore, 1) := dk_79 (dk_at dksX0_back_2 2 rfl rfl)
theorem dX0_back_51 : decode cX0_back 51 = .ok (.aload_n 0, 1) := dk_42 (dk_at dksX0_back_2 3 rfl rfl)
theorem dX0_back_52 : decode cX0_back 52 = .ok (.aload_n 0, 1) := dk_42 (dk_at dksX0_back_2 4 rfl rfl)
theorem dX0_back_53 : decode cX0_back 53 = .ok (.getfield 170, 3) := dk_180 0 170 (dk_at dksX0_back_2 5 rfl rfl)
theorem dX0_back_56 : decode cX0_back 56 = .ok (.iload_n 1, 1) := dk_27 (dk_at dksX0_back_2 8 rfl rfl)
theorem dX0_back_57 : decode cX0_back 57 = .ok (.aload_n 0, 1) := dk_42 (dk_at dksX0_back_2 9 rfl rfl)
theorem dX0_back_58 : decode cX0_back 58 = .ok (.getfield 31, 3) := dk_180 0 31 (dk_at dksX0_back_2 10 rfl rfl)
theorem dX0_back_61 : decode cX0_back 61 = .ok (.aload_n 0, 1) := dk_42 (dk_at dksX0_back_2 13 rfl rfl)
theorem dX0_back_62 : decode cX0_back 62 = .ok (.getfield 176, 3) := dk_180 0 176 (dk_at dksX0_back_2 14 rfl rfl)
theorem dX0_back_65 : decode cX0_back 65 = .ok (.iaload, 1) := dk_46 (dk_at dksX0_back_2 17 rfl rfl)
theorem dX0_back_66 : decode cX0_back 66 = .ok (.bipush 8, 2) := dk_16 8 (dk_at dksX0_back_2 18 rfl rfl)
theorem dX0_back_68 : decode cX0_back 68 = .ok (.irem, 1) := dk_112 (dk_at dksX0_back_2 20 rfl rfl)
theorem dX0_back_69 : decode cX0_back 69 = .ok (.invokestatic 149, 3) := dk_184 0 149 (dk_at dksX0_back_2 21 rfl rfl)
theorem dX0_back_72 : decode cX0_back 72 = .ok (.putfield 170, 3) := dk_181 0 170 (dk_at dksX0_back_3 0 rfl rfl)
theorem dX0_back_75 : decode cX0_back 75 = .ok (.aload_n 0, 1) := dk_42 (dk_at dksX0_back_3 3 rfl rfl)
theorem dX0_back_76 : decode cX0_back 76 = .ok (.aload_n 0, 1) := dk_42 (dk_at dksX0_back_3 4 rfl rfl)
theorem dX0_back_77 : decode cX0_back 77 = .ok (.getfield 37, 3) := dk_180 0 37 (dk_at dksX0_back_3 5 rfl rfl)
theorem dX0_back_80 : decode cX0_back 80 = .ok (.aload_n 0, 1) := dk_42 (dk_at dksX0_back_3 8 rfl rfl)
theorem dX0_back_81 : decode cX0_back 81 = .ok (.getfield 176, 3) := dk_180 0 176 (dk_at dksX0_back_3 9 rfl rfl)
theorem dX0_back_84 : decode cX0_back 84 = .ok (.iaload, 1) := dk_46 (dk_at dksX0_back_3 12 rfl rfl)
theorem dX0_back_85 : decode cX0_back 85 = .ok (.putfield 173, 3) := dk_181 0 173 (dk_at dksX0_back_3 13 rfl rfl)
theorem dX0_back_88 : decode cX0_back 88 = .ok (.aload_n 0, 1) := dk_42 (dk_at dksX0_back_3 16 rfl rfl)
theorem dX0_back_89 : decode cX0_back 89 = .ok (.getfield 176, 3) := dk_180 0 176 (dk_at dksX0_back_3 17 rfl rfl)
theorem dX0_back_92 : decode cX0_back 92 = .ok (.ireturn, 1) := dk_172 (dk_at dksX0_back_3 20 rfl rfl)
abbrev cX0_cruel : ByteArray := prog_1_method_28_code
def yX0_cruel : MethodName := ⟨RX0, "cruel", "()I"⟩
def dkwX0_cruel_3 : List UInt8 := [16, 253, 172, 42, 27, 182, 0, 197, 61, 27, 172]
abbrev dktX0_cruel_3 : List UInt8 := dkwX0_cruel_3 ++ []
def dkwX0_cruel_2 : List UInt8 := [153, 0, 11, 27, 42, 180, 0, 97, 160, 0, 6, 16, 254, 172, 42, 180, 0, 176, 16, 12, 160, 0, 6]
abbrev dktX0_cruel_2 : List UInt8 := dkwX0_cruel_2 ++ dktX0_cruel_3
def dkwX0_cruel_1 : List UInt8 := [180, 0, 170, 42, 180, 0, 118, 27, 182, 0, 200, 153, 0, 9, 132, 1, 1, 167, 255, 219, 42, 180, 0, 118]
abbrev dktX0_cruel_1 : List UInt8 := dkwX0_cruel_1 ++ dktX0_cruel_2
def dkwX0_cruel_0 : List UInt8 := [3, 60, 27, 42, 180, 0, 97, 162, 0, 35, 42, 180, 0, 118, 158, 0, 28, 42, 180, 0, 58, 42]
abbrev dktX0_cruel_0 : List UInt8 := dkwX0_cruel_0 ++ dktX0_cruel_1
theorem dksX0_cruel_0 : cX0_cruel.data.toList.drop 0 = dktX0_cruel_0 := by decide +kernel
theorem dksX0_cruel_1 : cX0_cruel.data.toList.drop 22 = dktX0_cruel_1 := dk_seg dksX0_cruel_0 22 rfl rfl
theorem dksX0_cruel_2 : cX0_cruel.data.toList.drop 46 = dktX0_cruel_2 := dk_seg dksX0_cruel_1 24 rfl rfl
theorem dksX0_cruel_3 : cX0_cruel.data.toList.drop 69 = dktX0_cruel_3 := dk_seg dksX0_cruel_2 23 rfl rfl
theorem dX0_cruel_0 : decode cX0_cruel 0 = .ok (.iconst 0, 1) := dk_3 (dk_at dksX0_cruel_0 0 rfl rfl)
theorem dX0_cruel_1 : decode cX0_cruel 1 = .ok (.istore_n 1, 1) := dk_60 (dk_at dksX0_cruel_0 1 rfl rfl)
theorem dX0_cruel_2 : decode cX0_cruel 2 = .ok (.iload_n 1, 1) := dk_27 (dk_at dksX0_cruel_0 2 rfl rfl)
theorem dX0_cruel_3 : decode cX0_cruel 3 = .ok (.aload_n 0, 1) := dk_42 (dk_at dksX0_cruel_0 3 rfl rfl)
theorem dX0_cruel_4 : decode cX0_cruel 4 = .ok (.getfield 97, 3) := dk_180 0 97 (dk_at dksX0_cruel_0 4 rfl rfl)
theorem dX0_cruel_7 : decode cX0_cruel 7 = .ok (.if_icmp .ge 35, 3) := dk_162 0 35 (dk_at dksX0_cruel_0 7 rfl rfl)
theorem dX0_cruel_10 : decode cX0_cruel 10 = .ok (.aload_n 0, 1) := dk_42 (dk_at dksX0_cruel_0 10 rfl rfl)
theorem dX0_cruel_11 : decode cX0_cruel 11 = .ok (.getfield 118, 3) := dk_180 0 118 (dk_at dksX0_cruel_0 11 rfl rfl)
theorem dX0_cruel_14 : decode cX0_cruel 14 = .ok (.ifCond .le 28, 3) := dk_158 0 28 (dk_at dksX0_cruel_0 14 rfl rfl)
theorem dX0_cruel_17 : decode cX0_cruel 17 = .ok (.aload_n 0, 1) := dk_42 (dk_at dksX0_cruel_0 17 rfl rfl)
theorem dX0_cruel_18 : decode cX0_cruel 18 = .ok (.getfield 58, 3) := dk_180 0 58 (dk_at dksX0_cruel_0 18 rfl rfl)
theorem dX0_cruel_21 : decode cX0_cruel 21 = .ok (.aload_n 0, 1) := dk_42 (dk_at dksX0_cruel_0 21 rfl rfl)
theorem dX0_cruel_22 : decode cX0_cruel 22 = .ok (.getfield 170, 3) := dk_180 0 170 (dk_at dksX0_cruel_1 0 rfl rfl)
theorem dX0_cruel_25 : decode cX0_cruel 25 = .ok (.aload_n 0, 1) := dk_42 (dk_at dksX0_cruel_1 3 rfl rfl)
theorem dX0_cruel_26 : decode cX0_cruel 26 = .ok (.getfield 118, 3) := dk_180 0 118 (dk_at dksX0_cruel_1 4 rfl rfl)
theorem dX0_cruel_29 : decode cX0_cruel 29 = .ok (.iload_n 1, 1) := dk_27 (dk_at dksX0_cruel_1 7 rfl rfl)
theorem dX0_cruel_30 : decode cX0_cruel 30 = .ok (.invokevirtual 200, 3) := dk_182 0 200 (dk_at dksX0_cruel_1 8 rfl rfl)
theorem dX0_cruel_33 : decode cX0_cruel 33 = .ok (.ifCond .eq 9, 3) := dk_153 0 9 (dk_at dksX0_cruel_1 11 rfl rfl)
theorem dX0_cruel_36 : decode cX0_cruel 36 = .ok (.iinc 1 1, 3) := dk_132 1 1 (dk_at dksX0_cruel_1 14 rfl rfl)
theorem dX0_cruel_39 : decode cX0_cruel 39 = .ok (.goto (-37), 3) := dk_167 255 219 (dk_at dksX0_cruel_1 17 rfl rfl)
theorem dX0_cruel_42 : decode cX0_cruel 42 = .ok (.aload_n 0, 1) := dk_42 (dk_at dksX0_cruel_1 20 rfl rfl)
theorem dX0_cruel_43 : decode cX0_cruel 43 = .ok (.getfield 118, 3) := dk_180 0 118 (dk_at dksX0_cruel_1 21 rfl rfl)
theorem dX0_cruel_46 : decode cX0_cruel 46 = .ok (.ifCond .eq 11, 3) := dk_153 0 11 (dk_at dksX0_cruel_2 0 rfl rfl)
theorem dX0_cruel_49 : decode cX0_cruel 49 = .ok (.iload_n 1, 1) := dk_27 (dk_at dksX0_cruel_2 3 rfl rfl)
theorem dX0_cruel_50 : decode cX0_cruel 50 = .ok (.aload_n 0, 1) := dk_42 (dk_at dksX0_cruel_2 4 rfl rfl)
theorem dX0_cruel_51 : decode cX0_cruel 51 = .ok (.getfield 97, 3) := dk_180 0 97 (dk_at dksX0_cruel_2 5 rfl rfl)
theorem dX0_cruel_54 : decode cX0_cruel 54 = .ok (.if_icmp .ne 6, 3) := dk_160 0 6 (dk_at dksX0_cruel_2 8 rfl rfl)
theorem dX0_cruel_57 : decode cX0_cruel 57 = .ok (.bipush (-2), 2) := dk_16 254 (dk_at dksX0_cruel_2 11 rfl rfl)
theorem dX0_cruel_59 : decode cX0_cruel 59 = .ok (.ireturn, 1) := dk_172 (dk_at dksX0_cruel_2 13 rfl rfl)
theorem dX0_cruel_60 : decode cX0_cruel 60 = .ok (.aload_n 0, 1) := dk_42 (dk_at dksX0_cruel_2 14 rfl rfl)
theorem dX0_cruel_61 : decode cX0_cruel 61 = .ok (.getfield 176, 3) := dk_180 0 176 (dk_at dksX0_cruel_2 15 rfl rfl)
theorem dX0_cruel_64 : decode cX0_cruel 64 = .ok (.bipush 12, 2) := dk_16 12 (dk_at dksX0_cruel_2 18 rfl rfl)
theorem dX0_cruel_66 : decode cX0_cruel 66 = .ok (.if_icmp .ne 6, 3) := dk_160 0 6 (dk_at dksX0_cruel_2 20 rfl rfl)
theorem dX0_cruel_69 : decode cX0_cruel 69 = .ok (.bipush (-3), 2) := dk_16 253 (dk_at dksX0_cruel_3 0 rfl rfl)
theorem dX0_cruel_71 : decode cX0_cruel 71 = .ok (.ireturn, 1) := dk_172 (dk_at dksX0_cruel_3 2 rfl rfl)
theorem dX0_cruel_72 : decode cX0_cruel 72 = .ok (.aload_n 0, 1) := dk_42 (dk_at dksX0_cruel_3 3 rfl rfl)
theorem dX0_cruel_73 : decode cX0_cruel 73 = .ok (.iload_n 1, 1) := dk_27 (dk_at dksX0_cruel_3 4 rfl rfl)
theorem dX0_cruel_74 : decode cX0_cruel 74 = .ok (.invokevirtual 197, 3) := dk_182 0 197 (dk_at dksX0_cruel_3 5 rfl rfl)
theorem dX0_cruel_77 : decode cX0_cruel 77 = .ok (.istore_n 2, 1) := dk_61 (dk_at dksX0_cruel_3 8 rfl rfl)
theorem dX0_cruel_78 : decode cX0_cruel 78 = .ok (.iload_n 1, 1) := dk_27 (dk_at dksX0_cruel_3 9 rfl rfl)
theorem dX0_cruel_79 : decode cX0_cruel 79 = .ok (.ireturn, 1) := dk_172 (dk_at dksX0_cruel_3 10 rfl rfl)
abbrev cX0_ask : ByteArray := prog_1_method_29_code
def yX0_ask : MethodName := ⟨RX0, "ask", "(I)I"⟩
def dkwX0_ask_1 : List UInt8 := [16, 12, 162, 0, 12, 42, 180, 0, 58, 27, 182, 0, 201, 172, 42, 27, 182, 0, 202, 172]
abbrev dktX0_ask_1 : List UInt8 := dkwX0_ask_1 ++ []
def dkwX0_ask_0 : List UInt8 := [42, 27, 182, 0, 124, 154, 0, 5, 2, 172, 42, 180, 0, 118, 154, 0, 6, 16, 254, 172, 42, 180, 0, 176]
abbrev dktX0_ask_0 : List UInt8 := dkwX0_ask_0 ++ dktX0_ask_1
theorem dksX0_ask_0 : cX0_ask.data.toList.drop 0 = dktX0_ask_0 := by decide +kernel
theorem dksX0_ask_1 : cX0_ask.data.toList.drop 24 = dktX0_ask_1 := dk_seg dksX0_ask_0 24 rfl rfl
theorem dX0_ask_0 : decode cX0_ask 0 = .ok (.aload_n 0, 1) := dk_42 (dk_at dksX0_ask_0 0 rfl rfl)
theorem dX0_ask_1 : decode cX0_ask 1 = .ok (.iload_n 1, 1) := dk_27 (dk_at dksX0_ask_0 1 rfl rfl)
theorem dX0_ask_2 : decode cX0_ask 2 = .ok (.invokevirtual 124, 3) := dk_182 0 124 (dk_at dksX0_ask_0 2 rfl rfl)
theorem dX0_ask_5 : decode cX0_ask 5 = .ok (.ifCond .ne 5, 3) := dk_154 0 5 (dk_at dksX0_ask_0 5 rfl rfl)
theorem dX0_ask_8 : decode cX0_ask 8 = .ok (.iconst (-1), 1) := dk_2 (dk_at dksX0_ask_0 8 rfl rfl)
theorem dX0_ask_9 : decode cX0_ask 9 = .ok (.ireturn, 1) := dk_172 (dk_at dksX0_ask_0 9 rfl rfl)
theorem dX0_ask_10 : decode cX0_ask 10 = .ok (.aload_n 0, 1) := dk_42 (dk_at dksX0_ask_0 10 rfl rfl)
theorem dX0_ask_11 : decode cX0_ask 11 = .ok (.getfield 118, 3) := dk_180 0 118 (dk_at dksX0_ask_0 11 rfl rfl)
theorem dX0_ask_14 : decode cX0_ask 14 = .ok (.ifCond .ne 6, 3) := dk_154 0 6 (dk_at dksX0_ask_0 14 rfl rfl)
theorem dX0_ask_17 : decode cX0_ask 17 = .ok (.bipush (-2), 2) := dk_16 254 (dk_at dksX0_ask_0 17 rfl rfl)
theorem dX0_ask_19 : decode cX0_ask 19 = .ok (.ireturn, 1) := dk_172 (dk_at dksX0_ask_0 19 rfl rfl)
theorem dX0_ask_20 : decode cX0_ask 20 = .ok (.aload_n 0, 1) := dk_42 (dk_at dksX0_ask_0 20 rfl rfl)
theorem dX0_ask_21 : decode cX0_ask 21 = .ok (.getfield 176, 3) := dk_180 0 176 (dk_at dksX0_ask_0 21 rfl rfl)
theorem dX0_ask_24 : decode cX0_ask 24 = .ok (.bipush 12, 2) := dk_16 12 (dk_at dksX0_ask_1 0 rfl rfl)
theorem dX0_ask_26 : decode cX0_ask 26 = .ok (.if_icmp .ge 12, 3) := dk_162 0 12 (dk_at dksX0_ask_1 2 rfl rfl)
theorem dX0_ask_29 : decode cX0_ask 29 = .ok (.aload_n 0, 1) := dk_42 (dk_at dksX0_ask_1 5 rfl rfl)
theorem dX0_ask_30 : decode cX0_ask 30 = .ok (.getfield 58, 3) := dk_180 0 58 (dk_at dksX0_ask_1 6 rfl rfl)
theorem dX0_ask_33 : decode cX0_ask 33 = .ok (.iload_n 1, 1) := dk_27 (dk_at dksX0_ask_1 9 rfl rfl)
theorem dX0_ask_34 : decode cX0_ask 34 = .ok (.invokevirtual 201, 3) := dk_182 0 201 (dk_at dksX0_ask_1 10 rfl rfl)
theorem dX0_ask_37 : decode cX0_ask 37 = .ok (.ireturn, 1) := dk_172 (dk_at dksX0_ask_1 13 rfl rfl)
theorem dX0_ask_38 : decode cX0_ask 38 = .ok (.aload_n 0, 1) := dk_42 (dk_at dksX0_ask_1 14 rfl rfl)
theorem dX0_ask_39 : decode cX0_ask 39 = .ok (.iload_n 1, 1) := dk_27 (dk_at dksX0_ask_1 15 rfl rfl)
theorem dX0_ask_40 : decode cX0_ask 40 = .ok (.invokevirtual 202, 3) := dk_182 0 202 (dk_at dksX0_ask_1 16 rfl rfl)
theorem dX0_ask_43 : decode cX0_ask 43 = .ok (.ireturn, 1) := dk_172 (dk_at dksX0_ask_1 19 rfl rfl)
abbrev cX0_askBehindAll : ByteArray := prog_1_method_30_code
def yX0_askBehindAll : MethodName := ⟨RX0, "askBehindAll", "(I)I"⟩
def dkwX0_askBehindAll_8 : List UInt8 := [54, 4, 21, 5, 21, 8, 184, 0, 109, 54, 5, 132, 6, 1, 167, 255, 136, 21, 4, 172]
abbrev dktX0_askBehindAll_8 : List UInt8 := dkwX0_askBehindAll_8 ++ []
def dkwX0_askBehindAll_7 : List UInt8 := [184, 0, 132, 27, 182, 0, 115, 96, 54, 8, 21, 8, 21, 5, 162, 0, 8, 21, 6, 167, 0, 5, 21, 4]
abbrev dktX0_askBehindAll_7 : List UInt8 := dkwX0_askBehindAll_7 ++ dktX0_askBehindAll_8
def dkwX0_askBehindAll_6 : List UInt8 := [182, 0, 115, 96, 184, 0, 109, 54, 8, 132, 9, 1, 167, 255, 214, 21, 8, 42, 42, 180, 0, 170, 21, 6]
abbrev dktX0_askBehindAll_6 : List UInt8 := dkwX0_askBehindAll_6 ++ dktX0_askBehindAll_7
def dkwX0_askBehindAll_5 : List UInt8 := [162, 0, 39, 21, 8, 45, 21, 7, 21, 9, 27, 184, 0, 149, 46, 42, 27, 21, 7, 21, 9, 184, 0, 132]
abbrev dktX0_askBehindAll_5 : List UInt8 := dkwX0_askBehindAll_5 ++ dktX0_askBehindAll_6
def dkwX0_askBehindAll_4 : List UInt8 := [180, 0, 170, 21, 6, 27, 184, 0, 149, 54, 7, 18, 105, 54, 8, 3, 54, 9, 21, 9, 42, 180, 0, 118]
abbrev dktX0_askBehindAll_4 : List UInt8 := dkwX0_askBehindAll_4 ++ dktX0_askBehindAll_5
def dkwX0_askBehindAll_3 : List UInt8 := [182, 0, 158, 78, 3, 54, 4, 18, 211, 54, 5, 3, 54, 6, 21, 6, 42, 180, 0, 118, 162, 0, 117, 42]
abbrev dktX0_askBehindAll_3 : List UInt8 := dkwX0_askBehindAll_3 ++ dktX0_askBehindAll_4
def dkwX0_askBehindAll_2 : List UInt8 := [180, 0, 58, 27, 182, 0, 201, 172, 42, 89, 180, 0, 205, 20, 0, 209, 97, 181, 0, 205, 42, 16, 12]
abbrev dktX0_askBehindAll_2 : List UInt8 := dkwX0_askBehindAll_2 ++ dktX0_askBehindAll_3
def dkwX0_askBehindAll_1 : List UInt8 := [180, 0, 170, 42, 180, 0, 118, 27, 182, 0, 200, 154, 0, 11, 42, 180, 0, 118, 4, 160, 0, 12, 42]
abbrev dktX0_askBehindAll_1 : List UInt8 := dkwX0_askBehindAll_1 ++ dktX0_askBehindAll_2
def dkwX0_askBehindAll_0 : List UInt8 := [42, 180, 0, 25, 16, 11, 46, 61, 42, 180, 0, 58, 182, 0, 179, 6, 161, 0, 30, 42, 180, 0, 58, 42]
abbrev dktX0_askBehindAll_0 : List UInt8 := dkwX0_askBehindAll_0 ++ dktX0_askBehindAll_1
theorem dksX0_askBehindAll_0 : cX0_askBehindAll.data.toList.drop 0 = dktX0_askBehindAll_0 := by decide +kernel
theorem dksX0_askBehindAll_1 : cX0_askBehindAll.data.toList.drop 24 = dktX0_askBehindAll_1 := dk_seg dksX0_askBehindAll_0 24 rfl rfl
theorem dksX0_askBehindAll_2 : cX0_askBehindAll.data.toList.drop 47 = dktX0_askBehindAll_2 := dk_seg dksX0_askBehindAll_1 23 rfl rfl
theorem dksX0_askBehindAll_3 : cX0_askBehindAll.data.toList.drop 70 = dktX0_askBehindAll_3 := dk_seg dksX0_askBehindAll_2 23 rfl rfl
theorem dksX0_askBehindAll_4 : cX0_askBehindAll.data.toList.drop 94 = dktX0_askBehindAll_4 := dk_seg dksX0_askBehindAll_3 24 rfl rfl
theorem dksX0_askBehindAll_5 : cX0_askBehindAll.data.toList.drop 118 = dktX0_askBehindAll_5 := dk_seg dksX0_askBehindAll_4 24 rfl rfl
theorem dksX0_askBehindAll_6 : cX0_askBehindAll.data.toList.drop 142 = dktX0_askBehindAll_6 := dk_seg dksX0_askBehindAll_5 24 rfl rfl
theorem dksX0_askBehindAll_7 : cX0_askBehindAll.data.toList.drop 166 = dktX0_askBehindAll_7 := dk_seg dksX0_askBehindAll_6 24 rfl rfl
theorem dksX0_askBehindAll_8 : cX0_askBehindAll.data.toList.drop 190 = dktX0_askBehindAll_8 := dk_seg dksX0_askBehindAll_7 24 rfl rfl
theorem dX0_askBehindAll_0 : decode cX0_askBehindAll 0 = .ok (.aload_n 0, 1) := dk_42 (dk_at dksX0_askBehindAll_0 0 rfl rfl)
theorem dX0_askBehindAll_1 : decode cX0_askBehindAll 1 = .ok (.getfield 25, 3) := dk_180 0 25 (dk_at dksX0_askBehindAll_0 1 rfl rfl)
theorem dX0_askBehindAll_4 : decode cX0_askBehindAll 4 = .ok (.bipush 11, 2) := dk_16 11 (dk_at dksX0_askBehindAll_0 4 rfl rfl)
theorem dX0_askBehindAll_6 : decode cX0_askBehindAll 6 = .ok (.iaload, 1) := dk_46 (dk_at dksX0_askBehindAll_0 6 rfl rfl)
theorem dX0_askBehindAll_7 : decode cX0_askBehindAll 7 = .ok (.istore_n 2, 1) := dk_61 (dk_at dksX0_askBehindAll_0 7 rfl rfl)
theorem dX0_askBehindAll_8 : decode cX0_askBehindAll 8 = .ok (.aload_n 0, 1) := dk_42 (dk_at dksX0_askBehindAll_0 8 rfl rfl)
theorem dX0_askBehindAll_9 : decode cX0_askBehindAll 9 = .ok (.getfield 58, 3) := dk_180 0 58 (dk_at dksX0_askBehindAll_0 9 rfl rfl)
theorem dX0_askBehindAll_12 : decode cX0_askBehindAll 12 = .ok (.invokevirtual 179, 3) := dk_182 0 179 (dk_at dksX0_askBehindAll_0 12 rfl rfl)
theorem dX0_askBehindAll_15 : decode cX0_askBehindAll 15 = .ok (.iconst 3, 1) := dk_6 (dk_at dksX0_askBehindAll_0 15 rfl rfl)
theorem dX0_askBehindAll_16 : decode cX0_askBehindAll 16 = .ok (.if_icmp .lt 30, 3) := dk_161 0 30 (dk_at dksX0_askBehindAll_0 16 rfl rfl)
theorem dX0_askBehindAll_19 : decode cX0_askBehindAll 19 = .ok (.aload_n 0, 1) := dk_42 (dk_at dksX0_askBehindAll_0 19 rfl rfl)
theorem dX0_askBehindAll_20 : decode cX0_askBehindAll 20 = .ok (.getfield 58, 3) := dk_180 0 58 (dk_at dksX0_askBehindAll_0 20 rfl rfl)
theorem dX0_askBehindAll_23 : decode cX0_askBehindAll 23 = .ok (.aload_n 0, 1) := dk_42 (dk_at dksX0_askBehindAll_0 23 rfl rfl)
theorem dX0_askBehindAll_24 : decode cX0_askBehindAll 24 = .ok (.getfield 170, 3) := dk_180 0 170 (dk_at dksX0_askBehindAll_1 0 rfl rfl)
theorem dX0_askBehindAll_27 : decode cX0_askBehindAll 27 = .ok (.aload_n 0, 1) := dk_42 (dk_at dksX0_askBehindAll_1 3 rfl rfl)
theorem dX0_askBehindAll_28 : decode cX0_askBehindAll 28 = .ok (.getfield 118, 3) := dk_180 0 118 (dk_at dksX0_askBehindAll_1 4 rfl rfl)
theorem dX0_askBehindAll_31 : decode cX0_askBehindAll 31 = .ok (.iload_n 1, 1) := dk_27 (dk_at dksX0_askBehindAll_1 7 rfl rfl)
theorem dX0_askBehindAll_32 : decode cX0_askBehindAll 32 = .ok (.invokevirtual 200, 3) := dk_182 0 200 (dk_at dksX0_askBehindAll_1 8 rfl rfl)
theorem dX0_askBehindAll_35 : decode cX0_askBehindAll 35 = .ok (.ifCond .ne 11, 3) := dk_154 0 11 (dk_at dksX0_askBehindAll_1 11 rfl rfl)
theorem dX0_askBehindAll_38 : decode cX0_askBehindAll 38 = .ok (.aload_n 0, 1) := dk_42 (dk_at dksX0_askBehindAll_1 14 rfl rfl)
theorem dX0_askBehindAll_39 : decode cX0_askBehindAll 39 = .ok (.getfield 118, 3) := dk_180 0 118 (dk_at dksX0_askBehindAll_1 15 rfl rfl)
theorem dX0_askBehindAll_42 : decode cX0_askBehindAll 42 = .ok (.iconst 1, 1) := dk_4 (dk_at dksX0_askBehindAll_1 18 rfl rfl)
theorem dX0_askBehindAll_43 : decode cX0_askBehindAll 43 = .ok (.if_icmp .ne 12, 3) := dk_160 0 12 (dk_at dksX0_askBehindAll_1 19 rfl rfl)
theorem dX0_askBehindAll_46 : decode cX0_askBehindAll 46 = .ok (.aload_n 0, 1) := dk_42 (dk_at dksX0_askBehindAll_1 22 rfl rfl)
theorem dX0_askBehindAll_47 : decode cX0_askBehindAll 47 = .ok (.getfield 58, 3) := dk_180 0 58 (dk_at dksX0_askBehindAll_2 0 rfl rfl)
theorem dX0_askBehindAll_50 : decode cX0_askBehindAll 50 = .ok (.iload_n 1, 1) := dk_27 (dk_at dksX0_askBehindAll_2 3 rfl rfl)
theorem dX0_askBehindAll_51 : decode cX0_askBehindAll 51 = .ok (.invokevirtual 201, 3) := dk_182 0 201 (dk_at dksX0_askBehindAll_2 4 rfl rfl)
theorem dX0_askBehindAll_54 : decode cX0_askBehindAll 54 = .ok (.ireturn, 1) := dk_172 (dk_at dksX0_askBehindAll_2 7 rfl rfl)
theorem dX0_askBehindAll_55 : decode cX0_askBehindAll 55 = .ok (.aload_n 0, 1) := dk_42 (dk_at dksX0_askBehindAll_2 8 rfl rfl)
theorem dX0_askBehindAll_56 : decode cX0_askBehindAll 56 = .ok (.dup, 1) := dk_89 (dk_at dksX0_askBehindAll_2 9 rfl rfl)
theorem dX0_askBehindAll_57 : decode cX0_askBehindAll 57 = .ok (.getfield 205, 3) := dk_180 0 205 (dk_at dksX0_askBehindAll_2 10 rfl rfl)
theorem dX0_askBehindAll_60 : decode cX0_askBehindAll 60 = .ok (.ldc2_w 209, 3) := dk_20 0 209 (dk_at dksX0_askBehindAll_2 13 rfl rfl)
theorem dX0_askBehindAll_63 : decode cX0_askBehindAll 63 = .ok (.ladd, 1) := dk_97 (dk_at dksX0_askBehindAll_2 16 rfl rfl)
theorem dX0_askBehindAll_64 : decode cX0_askBehindAll 64 = .ok (.putfield 205, 3) := dk_181 0 205 (dk_at dksX0_askBehindAll_2 17 rfl rfl)
theorem dX0_askBehindAll_67 : decode cX0_askBehindAll 67 = .ok (.aload_n 0, 1) := dk_42 (dk_at dksX0_askBehindAll_2 20 rfl rfl)
theorem dX0_askBehindAll_68 : decode cX0_askBehindAll 68 = .ok (.bipush 12, 2) := dk_16 12 (dk_at dksX0_askBehindAll_2 21 rfl rfl)
theorem dX0_askBehindAll_70 : decode cX0_askBehindAll 70 = .ok (.invokevirtual 158, 3) := dk_182 0 158 (dk_at dksX0_askBehindAll_3 0 rfl rfl)
theorem dX0_askBehindAll_73 : decode cX0_askBehindAll 73 = .ok (.astore_n 3, 1) := dk_78 (dk_at dksX0_askBehindAll_3 3 rfl rfl)
theorem dX0_askBehindAll_74 : decode cX0_askBehindAll 74 = .ok (.iconst 0, 1) := dk_3 (dk_at dksX0_askBehindAll_3 4 rfl rfl)
theorem dX0_askBehindAll_75 : decode cX0_askBehindAll 75 = .ok (.istore 4, 2) := dk_54 4 (dk_at dksX0_askBehindAll_3 5 rfl rfl)
theorem dX0_askBehindAll_77 : decode cX0_askBehindAll 77 = .ok (.ldc 211, 2) := dk_18 211 (dk_at dksX0_askBehindAll_3 7 rfl rfl)
theorem dX0_askBehindAll_79 : decode cX0_askBehindAll 79 = .ok (.istore 5, 2) := dk_54 5 (dk_at dksX0_askBehindAll_3 9 rfl rfl)
theorem dX0_askBehindAll_81 : decode cX0_askBehindAll 81 = .ok (.iconst 0, 1) := dk_3 (dk_at dksX0_askBehindAll_3 11 rfl rfl)
theorem dX0_askBehindAll_82 : decode cX0_askBehindAll 82 = .ok (.istore 6, 2) := dk_54 6 (dk_at dksX0_askBehindAll_3 12 rfl rfl)
theorem dX0_askBehindAll_84 : decode cX0_askBehindAll 84 = .ok (.iload 6, 2) := dk_21 6 (dk_at dksX0_askBehindAll_3 14 rfl rfl)
theorem dX0_askBehindAll_86 : decode cX0_askBehindAll 86 = .ok (.aload_n 0, 1) := dk_42 (dk_at dksX0_askBehindAll_3 16 rfl rfl)
theorem dX0_askBehindAll_87 : decode cX0_askBehindAll 87 = .ok (.getfield 118, 3) := dk_180 0 118 (dk_at dksX0_askBehindAll_3 17 rfl rfl)
theorem dX0_askBehindAll_90 : decode cX0_askBehindAll 90 = .ok (.if_icmp .ge 117, 3) := dk_162 0 117 (dk_at dksX0_askBehindAll_3 20 rfl rfl)
theorem dX0_askBehindAll_93 : decode cX0_askBehindAll 93 = .ok (.aload_n 0, 1) := dk_42 (dk_at dksX0_askBehindAll_3 23 rfl rfl)
theorem dX0_askBehindAll_94 : decode cX0_askBehindAll 94 = .ok (.getfield 170, 3) := dk_180 0 170 (dk_at dksX0_askBehindAll_4 0 rfl rfl)
theorem dX0_askBehindAll_97 : decode cX0_askBehindAll 97 = .ok (.iload 6, 2) := dk_21 6 (dk_at dksX0_askBehindAll_4 3 rfl rfl)
theorem dX0_askBehindAll_99 : decode cX0_askBehindAll 99 = .ok (.iload_n 1, 1) := dk_27 (dk_at dksX0_askBehindAll_4 5 rfl rfl)
theorem dX0_askBehindAll_100 : decode cX0_askBehindAll 100 = .ok (.invokestatic 149, 3) := dk_184 0 149 (dk_at dksX0_askBehindAll_4 6 rfl rfl)
theorem dX0_askBehindAll_103 : decode cX0_askBehindAll 103 = .ok (.istore 7, 2) := dk_54 7 (dk_at dksX0_askBehindAll_4 9 rfl rfl)
theorem dX0_askBehindAll_105 : decode cX0_askBehindAll 105 = .ok (.ldc 105, 2) := dk_18 105 (dk_at dksX0_askBehindAll_4 11 rfl rfl)
theorem dX0_askBehindAll_107 : decode cX0_askBehindAll 107 = .ok (.istore 8, 2) := dk_54 8 (dk_at dksX0_askBehindAll_4 13 rfl rfl)
theorem dX0_askBehindAll_109 : decode cX0_askBehindAll 109 = .ok (.iconst 0, 1) := dk_3 (dk_at dksX0_askBehindAll_4 15 rfl rfl)
theorem dX0_askBehindAll_110 : decode cX0_askBehindAll 110 = .ok (.istore 9, 2) := dk_54 9 (dk_at dksX0_askBehindAll_4 16 rfl rfl)
theorem dX0_askBehindAll_112 : decode cX0_askBehindAll 112 = .ok (.iload 9, 2) := dk_21 9 (dk_at dksX0_askBehindAll_4 18 rfl rfl)
theorem dX0_askBehindAll_114 : decode cX0_askBehindAll 114 = .ok (.aload_n 0, 1) := dk_42 (dk_at dksX0_askBehindAll_4 20 rfl rfl)
theorem dX0_askBehindAll_115 : decode cX0_askBehindAll 115 = .ok (.getfield 118, 3) := dk_180 0 118 (dk_at dksX0_askBehindAll_4 21 rfl rfl)
theorem dX0_askBehindAll_118 : decode cX0_askBehindAll 118 = .ok (.if_icmp .ge 39, 3) := dk_162 0 39 (dk_at dksX0_askBehindAll_5 0 rfl rfl)
theorem dX0_askBehindAll_121 : decode cX0_askBehindAll 121 = .ok (.iload 8, 2) := dk_21 8 (dk_at dksX0_askBehindAll_5 3 rfl rfl)
theorem dX0_askBehindAll_123 : decode cX0_askBehindAll 123 = .ok (.aload_n 3, 1) := dk_45 (dk_at dksX0_askBehindAll_5 5 rfl rfl)
theorem dX0_askBehindAll_124 : decode cX0_askBehindAll 124 = .ok (.iload 7, 2) := dk_21 7 (dk_at dksX0_askBehindAll_5 6 rfl rfl)
theorem dX0_askBehindAll_126 : decode cX0_askBehindAll 126 = .ok (.iload 9, 2) := dk_21 9 (dk_at dksX0_askBehindAll_5 8 rfl rfl)
theorem dX0_askBehindAll_128 : decode cX0_askBehindAll 128 = .ok (.iload_n 1, 1) := dk_27 (dk_at dksX0_askBehindAll_5 10 rfl rfl)
theorem dX0_askBehindAll_129 : decode cX0_askBehindAll 129 = .ok (.invokestatic 149, 3) := dk_184 0 149 (dk_at dksX0_askBehindAll_5 11 rfl rfl)
theorem dX0_askBehindAll_132 : decode cX0_askBehindAll 132 = .ok (.iaload, 1) := dk_46 (dk_at dksX0_askBehindAll_5 14 rfl rfl)
theorem dX0_askBehindAll_133 : decode cX0_askBehindAll 133 = .ok (.aload_n 0, 1) := dk_42 (dk_at dksX0_askBehindAll_5 15 rfl rfl)
theorem dX0_askBehindAll_134 : decode cX0_askBehindAll 134 = .ok (.iload_n 1, 1) := dk_27 (dk_at dksX0_askBehindAll_5 16 rfl rfl)
theorem dX0_askBehindAll_135 : decode cX0_askBehindAll 135 = .ok (.iload 7, 2) := dk_21 7 (dk_at dksX0_askBehindAll_5 17 rfl rfl)
theorem dX0_askBehindAll_137 : decode cX0_askBehindAll 137 = .ok (.iload 9, 2) := dk_21 9 (dk_at dksX0_askBehindAll_5 19 rfl rfl)
theorem dX0_askBehindAll_139 : decode cX0_askBehindAll 139 = .ok (.invokestatic 132, 3) := dk_184 0 132 (dk_at dksX0_askBehindAll_5 21 rfl rfl)
theorem dX0_askBehindAll_142 : decode cX0_askBehindAll 142 = .ok (.invokevirtual 115, 3) := dk_182 0 115 (dk_at dksX0_askBehindAll_6 0 rfl rfl)
theorem dX0_askBehindAll_145 : decode cX0_askBehindAll 145 = .ok (.iadd, 1) := dk_96 (dk_at dksX0_askBehindAll_6 3 rfl rfl)
theorem dX0_askBehindAll_146 : decode cX0_askBehindAll 146 = .ok (.invokestatic 109, 3) := dk_184 0 109 (dk_at dksX0_askBehindAll_6 4 rfl rfl)
theorem dX0_askBehindAll_149 : decode cX0_askBehindAll 149 = .ok (.istore 8, 2) := dk_54 8 (dk_at dksX0_askBehindAll_6 7 rfl rfl)
theorem dX0_askBehindAll_151 : decode cX0_askBehindAll 151 = .ok (.iinc 9 1, 3) := dk_132 9 1 (dk_at dksX0_askBehindAll_6 9 rfl rfl)
theorem dX0_askBehindAll_154 : decode cX0_askBehindAll 154 = .ok (.goto (-42), 3) := dk_167 255 214 (dk_at dksX0_askBehindAll_6 12 rfl rfl)
theorem dX0_askBehindAll_157 : decode cX0_askBehindAll 157 = .ok (.iload 8, 2) := dk_21 8 (dk_at dksX0_askBehindAll_6 15 rfl rfl)
theorem dX0_askBehindAll_159 : decode cX0_askBehindAll 159 = .ok (.aload_n 0, 1) := dk_42 (dk_at dksX0_askBehindAll_6 17 rfl rfl)
theorem dX0_askBehindAll_160 : decode cX0_askBehindAll 160 = .ok (.aload_n 0, 1) := dk_42 (dk_at dksX0_askBehindAll_6 18 rfl rfl)
theorem dX0_askBehindAll_161 : decode cX0_askBehindAll 161 = .ok (.getfield 170, 3) := dk_180 0 170 (dk_at dksX0_askBehindAll_6 19 rfl rfl)
theorem dX0_askBehindAll_164 : decode cX0_askBehindAll 164 = .ok (.iload 6, 2) := dk_21 6 (dk_at dksX0_askBehindAll_6 22 rfl rfl)
theorem dX0_askBehindAll_166 : decode cX0_askBehindAll 166 = .ok (.invokestatic 132, 3) := dk_184 0 132 (dk_at dksX0_askBehindAll_7 0 rfl rfl)
theorem dX0_askBehindAll_169 : decode cX0_askBehindAll 169 = .ok (.iload_n 1, 1) := dk_27 (dk_at dksX0_askBehindAll_7 3 rfl rfl)
theorem dX0_askBehindAll_170 : decode cX0_askBehindAll 170 = .ok (.invokevirtual 115, 3) := dk_182 0 115 (dk_at dksX0_askBehindAll_7 4 rfl rfl)
theorem dX0_askBehindAll_173 : decode cX0_askBehindAll 173 = .ok (.iadd, 1) := dk_96 (dk_at dksX0_askBehindAll_7 7 rfl rfl)
theorem dX0_askBehindAll_174 : decode cX0_askBehindAll 174 = .ok (.istore 8, 2) := dk_54 8 (dk_at dksX0_askBehindAll_7 8 rfl rfl)
theorem dX0_askBehindAll_176 : decode cX0_askBehindAll 176 = .ok (.iload 8, 2) := dk_21 8 (dk_at dksX0_askBehindAll_7 10 rfl rfl)
theorem dX0_askBehindAll_178 : decode cX0_askBehindAll 178 = .ok (.iload 5, 2) := dk_21 5 (dk_at dksX0_askBehindAll_7 12 rfl rfl)
theorem dX0_askBehindAll_180 : decode cX0_askBehindAll 180 = .ok (.if_icmp .ge 8, 3) := dk_162 0 8 (dk_at dksX0_askBehindAll_7 14 rfl rfl)
theorem dX0_askBehindAll_183 : decode cX0_askBehindAll 183 = .ok (.iload 6, 2) := dk_21 6 (dk_at dksX0_askBehindAll_7 17 rfl rfl)
theorem dX0_askBehindAll_185 : decode cX0_askBehindAll 185 = .ok (.goto 5, 3) := dk_167 0 5 (dk_at dksX0_askBehindAll_7 19 rfl rfl)
theorem dX0_askBehindAll_188 : decode cX0_askBehindAll 188 = .ok (.iload 4, 2) := dk_21 4 (dk_at dksX0_askBehindAll_7 22 rfl rfl)
theorem dX0_askBehindAll_190 : decode cX0_askBehindAll 190 = .ok (.istore 4, 2) := dk_54 4 (dk_at dksX0_askBehindAll_8 0 rfl rfl)
theorem dX0_askBehindAll_192 : decode cX0_askBehindAll 192 = .ok (.iload 5, 2) := dk_21 5 (dk_at dksX0_askBehindAll_8 2 rfl rfl)
theorem dX0_askBehindAll_194 : decode cX0_askBehindAll 194 = .ok (.iload 8, 2) := dk_21 8 (dk_at dksX0_askBehindAll_8 4 rfl rfl)
theorem dX0_askBehindAll_196 : decode cX0_askBehindAll 196 = .ok (.invokestatic 109, 3) := dk_184 0 109 (dk_at dksX0_askBehindAll_8 6 rfl rfl)
theorem dX0_askBehindAll_199 : decode cX0_askBehindAll 199 = .ok (.istore 5, 2) := dk_54 5 (dk_at dksX0_askBehindAll_8 9 rfl rfl)
theorem dX0_askBehindAll_201 : decode cX0_askBehindAll 201 = .ok (.iinc 6 1, 3) := dk_132 6 1 (dk_at dksX0_askBehindAll_8 11 rfl rfl)
theorem dX0_askBehindAll_204 : decode cX0_askBehindAll 204 = .ok (.goto (-120), 3) := dk_167 255 136 (dk_at dksX0_askBehindAll_8 14 rfl rfl)
theorem dX0_askBehindAll_207 : decode cX0_askBehindAll 207 = .ok (.iload 4, 2) := dk_21 4 (dk_at dksX0_askBehindAll_8 17 rfl rfl)
theorem dX0_askBehindAll_209 : decode cX0_askBehindAll 209 = .ok (.ireturn, 1) := dk_172 (dk_at dksX0_askBehindAll_8 19 rfl rfl)
abbrev cX0_stand : ByteArray := prog_1_method_31_code
def yX0_stand : MethodName := ⟨RX0, "stand", "()I"⟩
def dkwX0_stand_0 : List UInt8 := [42, 180, 0, 118, 154, 0, 8, 16, 254, 167, 0, 7, 42, 180, 0, 170, 172]
abbrev dktX0_stand_0 : List UInt8 := dkwX0_stand_0 ++ []
theorem dksX0_stand_0 : cX0_stand.data.toList.drop 0 = dktX0_stand_0 := by decide +kernel
theorem dX0_stand_0 : decode cX0_stand 0 = .ok (.aload_n 0, 1) := dk_42 (dk_at dksX0_stand_0 0 rfl rfl)
theorem dX0_stand_1 : decode cX0_stand 1 = .ok (.getfield 118, 3) := dk_180 0 118 (dk_at dksX0_stand_0 1 rfl rfl)
theorem dX0_stand_4 : decode cX0_stand 4 = .ok (.ifCond .ne 8, 3) := dk_154 0 8 (dk_at dksX0_stand_0 4 rfl rfl)
theorem dX0_stand_7 : decode cX0_stand 7 = .ok (.bipush (-2), 2) := dk_16 254 (dk_at dksX0_stand_0 7 rfl rfl)
theorem dX0_stand_9 : decode cX0_stand 9 = .ok (.goto 7, 3) := dk_167 0 7 (dk_at dksX0_stand_0 9 rfl rfl)
theorem dX0_stand_12 : decode cX0_stand 12 = .ok (.aload_n 0, 1) := dk_42 (dk_at dksX0_stand_0 12 rfl rfl)
theorem dX0_stand_13 : decode cX0_stand 13 = .ok (.getfield 170, 3) := dk_180 0 170 (dk_at dksX0_stand_0 13 rfl rfl)
theorem dX0_stand_16 : decode cX0_stand 16 = .ok (.ireturn, 1) := dk_172 (dk_at dksX0_stand_0 16 rfl rfl)
abbrev cX0_told : ByteArray := prog_1_method_32_code
def yX0_told : MethodName := ⟨RX0, "told", "(II)I"⟩
def dkwX0_told_3 : List UInt8 := [42, 180, 0, 34, 27, 46, 172, 2, 172]
abbrev dktX0_told_3 : List UInt8 := dkwX0_told_3 ++ []
def dkwX0_told_2 : List UInt8 := [42, 180, 0, 25, 27, 46, 172, 42, 180, 0, 28, 27, 46, 172, 42, 180, 0, 31, 27, 46, 16, 8, 108, 172]
abbrev dktX0_told_2 : List UInt8 := dkwX0_told_2 ++ dktX0_told_3
def dkwX0_told_1 : List UInt8 := [170, 0, 0, 0, 0, 0, 62, 0, 0, 0, 0, 0, 0, 0, 3, 0, 0, 0, 31, 0, 0, 0, 38, 0, 0, 0, 45, 0, 0, 0, 55]
abbrev dktX0_told_1 : List UInt8 := dkwX0_told_1 ++ dktX0_told_2
def dkwX0_told_0 : List UInt8 := [27, 3, 42, 180, 0, 176, 4, 100, 184, 0, 101, 154, 0, 5, 2, 172, 28]
abbrev dktX0_told_0 : List UInt8 := dkwX0_told_0 ++ dktX0_told_1
theorem dksX0_told_0 : cX0_told.data.toList.drop 0 = dktX0_told_0 := by decide +kernel
theorem dksX0_told_1 : cX0_told.data.toList.drop 17 = dktX0_told_1 := dk_seg dksX0_told_0 17 rfl rfl
theorem dksX0_told_2 : cX0_told.data.toList.drop 48 = dktX0_told_2 := dk_seg dksX0_told_1 31 rfl rfl
theorem dksX0_told_3 : cX0_told.data.toList.drop 72 = dktX0_told_3 := dk_seg dksX0_told_2 24 rfl rfl
theorem dX0_told_0 : decode cX0_told 0 = .ok (.iload_n 1, 1) := dk_27 (dk_at dksX0_told_0 0 rfl rfl)
theorem dX0_told_1 : decode cX0_told 1 = .ok (.iconst 0, 1) := dk_3 (dk_at dksX0_told_0 1 rfl rfl)
theorem dX0_told_2 : decode cX0_told 2 = .ok (.aload_n 0, 1) := dk_42 (dk_at dksX0_told_0 2 rfl rfl)
theorem dX0_told_3 : decode cX0_told 3 = .ok (.getfield 176, 3) := dk_180 0 176 (dk_at dksX0_told_0 3 rfl rfl)
theorem dX0_told_6 : decode cX0_told 6 = .ok (.iconst 1, 1) := dk_4 (dk_at dksX0_told_0 6 rfl rfl)
theorem dX0_told_7 : decode cX0_told 7 = .ok (.isub, 1) := dk_100 (dk_at dksX0_told_0 7 rfl rfl)
theorem dX0_told_8 : decode cX0_told 8 = .ok (.invokestatic 101, 3) := dk_184 0 101 (dk_at dksX0_told_0 8 rfl rfl)
theorem dX0_told_11 : decode cX0_told 11 = .ok (.ifCond .ne 5, 3) := dk_154 0 5 (dk_at dksX0_told_0 11 rfl rfl)
theorem dX0_told_14 : decode cX0_told 14 = .ok (.iconst (-1), 1) := dk_2 (dk_at dksX0_told_0 14 rfl rfl)
theorem dX0_told_15 : decode cX0_told 15 = .ok (.ireturn, 1) := dk_172 (dk_at dksX0_told_0 15 rfl rfl)
theorem dX0_told_16 : decode cX0_told 16 = .ok (.iload_n 2, 1) := dk_28 (dk_at dksX0_told_0 16 rfl rfl)
theorem dX0_told_17 : decode cX0_told 17 = .ok (.tableswitch 62 0 3 #[31, 38, 45, 55], 31) := by decide +kernel
theorem dX0_told_48 : decode cX0_told 48 = .ok (.aload_n 0, 1) := dk_42 (dk_at dksX0_told_2 0 rfl rfl)
theorem dX0_told_49 : decode cX0_told 49 = .ok (.getfield 25, 3) := dk_180 0 25 (dk_at dksX0_told_2 1 rfl rfl)
theorem dX0_told_52 : decode cX0_told 52 = .ok (.iload_n 1, 1) := dk_27 (dk_at dksX0_told_2 4 rfl rfl)
theorem dX0_told_53 : decode cX0_told 53 = .ok (.iaload, 1) := dk_46 (dk_at dksX0_told_2 5 rfl rfl)
theorem dX0_told_54 : decode cX0_told 54 = .ok (.ireturn, 1) := dk_172 (dk_at dksX0_told_2 6 rfl rfl)
theorem dX0_told_55 : decode cX0_told 55 = .ok (.aload_n 0, 1) := dk_42 (dk_at dksX0_told_2 7 rfl rfl)
theorem dX0_told_56 : decode cX0_told 56 = .ok (.getfield 28, 3) := dk_180 0 28 (dk_at dksX0_told_2 8 rfl rfl)
theorem dX0_told_59 : decode cX0_told 59 = .ok (.iload_n 1, 1) := dk_27 (dk_at dksX0_told_2 11 rfl rfl)
theorem dX0_told_60 : decode cX0_told 60 = .ok (.iaload, 1) := dk_46 (dk_at dksX0_told_2 12 rfl rfl)
theorem dX0_told_61 : decode cX0_told 61 = .ok (.ireturn, 1) := dk_172 (dk_at dksX0_told_2 13 rfl rfl)
theorem dX0_told_62 : decode cX0_told 62 = .ok (.aload_n 0, 1) := dk_42 (dk_at dksX0_told_2 14 rfl rfl)
theorem dX0_told_63 : decode cX0_told 63 = .ok (.getfield 31, 3) := dk_180 0 31 (dk_at dksX0_told_2 15 rfl rfl)
theorem dX0_told_66 : decode cX0_told 66 = .ok (.iload_n 1, 1) := dk_27 (dk_at dksX0_told_2 18 rfl rfl)
theorem dX0_told_67 : decode cX0_told 67 = .ok (.iaload, 1) := dk_46 (dk_at dksX0_told_2 19 rfl rfl)
theorem dX0_told_68 : decode cX0_told 68 = .ok (.bipush 8, 2) := dk_16 8 (dk_at dksX0_told_2 20 rfl rfl)
theorem dX0_told_70 : decode cX0_told 70 = .ok (.idiv, 1) := dk_108 (dk_at dksX0_told_2 22 rfl rfl)
theorem dX0_told_71 : decode cX0_told 71 = .ok (.ireturn, 1) := dk_172 (dk_at dksX0_told_2 23 rfl rfl)
theorem dX0_told_72 : decode cX0_told 72 = .ok (.aload_n 0, 1) := dk_42 (dk_at dksX0_told_3 0 rfl rfl)
theorem dX0_told_73 : decode cX0_told 73 = .ok (.getfield 34, 3) := dk_180 0 34 (dk_at dksX0_told_3 1 rfl rfl)
theorem dX0_told_76 : decode cX0_told 76 = .ok (.iload_n 1, 1) := dk_27 (dk_at dksX0_told_3 4 rfl rfl)
theorem dX0_told_77 : decode cX0_told 77 = .ok (.iaload, 1) := dk_46 (dk_at dksX0_told_3 5 rfl rfl)
theorem dX0_told_78 : decode cX0_told 78 = .ok (.ireturn, 1) := dk_172 (dk_at dksX0_told_3 6 rfl rfl)
theorem dX0_told_79 : decode cX0_told 79 = .ok (.iconst (-1), 1) := dk_2 (dk_at dksX0_told_3 7 rfl rfl)
theorem dX0_told_80 : decode cX0_told 80 = .ok (.ireturn, 1) := dk_172 (dk_at dksX0_told_3 8 rfl rfl)
abbrev cX0_cost : ByteArray := prog_1_method_34_code
def yX0_cost : MethodName := ⟨RX0, "cost", "(I)I"⟩
def dkwX0_cost_1 : List UInt8 := [2, 167, 0, 20, 27, 156, 0, 10, 42, 182, 0, 212, 167, 0, 9, 42, 180, 0, 22, 27, 46, 172]
abbrev dktX0_cost_1 : List UInt8 := dkwX0_cost_1 ++ []
def dkwX0_cost_0 : List UInt8 := [42, 180, 0, 118, 154, 0, 6, 16, 254, 172, 27, 2, 42, 180, 0, 118, 4, 100, 184, 0, 101, 154, 0, 7]
abbrev dktX0_cost_0 : List UInt8 := dkwX0_cost_0 ++ dktX0_cost_1
theorem dksX0_cost_0 : cX0_cost.data.toList.drop 0 = dktX0_cost_0 := by decide +kernel
theorem dksX0_cost_1 : cX0_cost.data.toList.drop 24 = dktX0_cost_1 := dk_seg dksX0_cost_0 24 rfl rfl
theorem dX0_cost_0 : decode cX0_cost 0 = .ok (.aload_n 0, 1) := dk_42 (dk_at dksX0_cost_0 0 rfl rfl)
theorem dX0_cost_1 : decode cX0_cost 1 = .ok (.getfield 118, 3) := dk_180 0 118 (dk_at dksX0_cost_0 1 rfl rfl)
theorem dX0_cost_4 : decode cX0_cost 4 = .ok (.ifCond .ne 6, 3) := dk_154 0 6 (dk_at dksX0_cost_0 4 rfl rfl)
theorem dX0_cost_7 : decode cX0_cost 7 = .ok (.bipush (-2), 2) := dk_16 254 (dk_at dksX0_cost_0 7 rfl rfl)
theorem dX0_cost_9 : decode cX0_cost 9 = .ok (.ireturn, 1) := dk_172 (dk_at dksX0_cost_0 9 rfl rfl)
theorem dX0_cost_10 : decode cX0_cost 10 = .ok (.iload_n 1, 1) := dk_27 (dk_at dksX0_cost_0 10 rfl rfl)
theorem dX0_cost_11 : decode cX0_cost 11 = .ok (.iconst (-1), 1) := dk_2 (dk_at dksX0_cost_0 11 rfl rfl)
theorem dX0_cost_12 : decode cX0_cost 12 = .ok (.aload_n 0, 1) := dk_42 (dk_at dksX0_cost_0 12 rfl rfl)
theorem dX0_cost_13 : decode cX0_cost 13 = .ok (.getfield 118, 3) := dk_180 0 118 (dk_at dksX0_cost_0 13 rfl rfl)
theorem dX0_cost_16 : decode cX0_cost 16 = .ok (.iconst 1, 1) := dk_4 (dk_at dksX0_cost_0 16 rfl rfl)
theorem dX0_cost_17 : decode cX0_cost 17 = .ok (.isub, 1) := dk_100 (dk_at dksX0_cost_0 17 rfl rfl)
theorem dX0_cost_18 : decode cX0_cost 18 = .ok (.invokestatic 101, 3) := dk_184 0 101 (dk_at dksX0_cost_0 18 rfl rfl)
theorem dX0_cost_21 : decode cX0_cost 21 = .ok (.ifCond .ne 7, 3) := dk_154 0 7 (dk_at dksX0_cost_0 21 rfl rfl)
theorem dX0_cost_24 : decode cX0_cost 24 = .ok (.iconst (-1), 1) := dk_2 (dk_at dksX0_cost_1 0 rfl rfl)
theorem dX0_cost_25 : decode cX0_cost 25 = .ok (.goto 20, 3) := dk_167 0 20 (dk_at dksX0_cost_1 1 rfl rfl)
theorem dX0_cost_28 : decode cX0_cost 28 = .ok (.iload_n 1, 1) := dk_27 (dk_at dksX0_cost_1 4 rfl rfl)
theorem dX0_cost_29 : decode cX0_cost 29 = .ok (.ifCond .ge 10, 3) := dk_156 0 10 (dk_at dksX0_cost_1 5 rfl rfl)
theorem dX0_cost_32 : decode cX0_cost 32 = .ok (.aload_n 0, 1) := dk_42 (dk_at dksX0_cost_1 8 rfl rfl)
theorem dX0_cost_33 : decode cX0_cost 33 = .ok (.invokevirtual 212, 3) := dk_182 0 212 (dk_at dksX0_cost_1 9 rfl rfl)
theorem dX0_cost_36 : decode cX0_cost 36 = .ok (.goto 9, 3) := dk_167 0 9 (dk_at dksX0_cost_1 12 rfl rfl)
theorem dX0_cost_39 : decode cX0_cost 39 = .ok (.aload_n 0, 1) := dk_42 (dk_at dksX0_cost_1 15 rfl rfl)
theorem dX0_cost_40 : decode cX0_cost 40 = .ok (.getfield 22, 3) := dk_180 0 22 (dk_at dksX0_cost_1 16 rfl rfl)
theorem dX0_cost_43 : decode cX0_cost 43 = .ok (.iload_n 1, 1) := dk_27 (dk_at dksX0_cost_1 19 rfl rfl)
theorem dX0_cost_44 : decode cX0_cost 44 = .ok (.iaload, 1) := dk_46 (dk_at dksX0_cost_1 20 rfl rfl)
theorem dX0_cost_45 : decode cX0_cost 45 = .ok (.ireturn, 1) := dk_172 (dk_at dksX0_cost_1 21 rfl rfl)
abbrev cX0_costNow : ByteArray := prog_1_method_33_code
def yX0_costNow : MethodName := ⟨RX0, "costNow", "()I"⟩
def dkwX0_costNow_1 : List UInt8 := [167, 255, 236, 27, 172]
abbrev dktX0_costNow_1 : List UInt8 := dkwX0_costNow_1 ++ []
def dkwX0_costNow_0 : List UInt8 := [3, 60, 3, 61, 28, 42, 180, 0, 118, 162, 0, 18, 27, 42, 180, 0, 22, 28, 46, 96, 60, 132, 2, 1]
abbrev dktX0_costNow_0 : List UInt8 := dkwX0_costNow_0 ++ dktX0_costNow_1
theorem dksX0_costNow_0 : cX0_costNow.data.toList.drop 0 = dktX0_costNow_0 := by decide +kernel
theorem dksX0_costNow_1 : cX0_costNow.data.toList.drop 24 = dktX0_costNow_1 := dk_seg dksX0_costNow_0 24 rfl rfl
theorem dX0_costNow_0 : decode cX0_costNow 0 = .ok (.iconst 0, 1) := dk_3 (dk_at dksX0_costNow_0 0 rfl rfl)
theorem dX0_costNow_1 : decode cX0_costNow 1 = .ok (.istore_n 1, 1) := dk_60 (dk_at dksX0_costNow_0 1 rfl rfl)
theorem dX0_costNow_2 : decode cX0_costNow 2 = .ok (.iconst 0, 1) := dk_3 (dk_at dksX0_costNow_0 2 rfl rfl)
theorem dX0_costNow_3 : decode cX0_costNow 3 = .ok (.istore_n 2, 1) := dk_61 (dk_at dksX0_costNow_0 3 rfl rfl)
theorem dX0_costNow_4 : decode cX0_costNow 4 = .ok (.iload_n 2, 1) := dk_28 (dk_at dksX0_costNow_0 4 rfl rfl)
theorem dX0_costNow_5 : decode cX0_costNow 5 = .ok (.aload_n 0, 1) := dk_42 (dk_at dksX0_costNow_0 5 rfl rfl)
theorem dX0_costNow_6 : decode cX0_costNow 6 = .ok (.getfield 118, 3) := dk_180 0 118 (dk_at dksX0_costNow_0 6 rfl rfl)
theorem dX0_costNow_9 : decode cX0_costNow 9 = .ok (.if_icmp .ge 18, 3) := dk_162 0 18 (dk_at dksX0_costNow_0 9 rfl rfl)
theorem dX0_costNow_12 : decode cX0_costNow 12 = .ok (.iload_n 1, 1) := dk_27 (dk_at dksX0_costNow_0 12 rfl rfl)
theorem dX0_costNow_13 : decode cX0_costNow 13 = .ok (.aload_n 0, 1) := dk_42 (dk_at dksX0_costNow_0 13 rfl rfl)
theorem dX0_costNow_14 : decode cX0_costNow 14 = .ok (.getfield 22, 3) := dk_180 0 22 (dk_at dksX0_costNow_0 14 rfl rfl)
theorem dX0_costNow_17 : decode cX0_costNow 17 = .ok (.iload_n 2, 1) := dk_28 (dk_at dksX0_costNow_0 17 rfl rfl)
theorem dX0_costNow_18 : decode cX0_costNow 18 = .ok (.iaload, 1) := dk_46 (dk_at dksX0_costNow_0 18 rfl rfl)
theorem dX0_costNow_19 : decode cX0_costNow 19 = .ok (.iadd, 1) := dk_96 (dk_at dksX0_costNow_0 19 rfl rfl)
theorem dX0_costNow_20 : decode cX0_costNow 20 = .ok (.istore_n 1, 1) := dk_60 (dk_at dksX0_costNow_0 20 rfl rfl)
theorem dX0_costNow_21 : decode cX0_costNow 21 = .ok (.iinc 2 1, 3) := dk_132 2 1 (dk_at dksX0_costNow_0 21 rfl rfl)
theorem dX0_costNow_24 : decode cX0_costNow 24 = .ok (.goto (-20), 3) := dk_167 255 236 (dk_at dksX0_costNow_1 0 rfl rfl)
theorem dX0_costNow_27 : decode cX0_costNow 27 = .ok (.iload_n 1, 1) := dk_27 (dk_at dksX0_costNow_1 3 rfl rfl)
theorem dX0_costNow_28 : decode cX0_costNow 28 = .ok (.ireturn, 1) := dk_172 (dk_at dksX0_costNow_1 4 rfl rfl)
abbrev cX0_moves : ByteArray := prog_1_method_35_code
def yX0_moves : MethodName := ⟨RX0, "moves", "(II)I"⟩
def dkwX0_moves_1 : List UInt8 := [153, 0, 14, 42, 27, 28, 3, 3, 182, 0, 135, 167, 0, 4, 2, 172]
abbrev dktX0_moves_1 : List UInt8 := dkwX0_moves_1 ++ []
def dkwX0_moves_0 : List UInt8 := [42, 180, 0, 118, 154, 0, 6, 16, 254, 172, 42, 27, 182, 0, 143, 153, 0, 22, 42, 28, 182, 0, 143]
abbrev dktX0_moves_0 : List UInt8 := dkwX0_moves_0 ++ dktX0_moves_1
theorem dksX0_moves_0 : cX0_moves.data.toList.drop 0 = dktX0_moves_0 := by decide +kernel
theorem dksX0_moves_1 : cX0_moves.data.toList.drop 23 = dktX0_moves_1 := dk_seg dksX0_moves_0 23 rfl rfl
theorem dX0_moves_0 : decode cX0_moves 0 = .ok (.aload_n 0, 1) := dk_42 (dk_at dksX0_moves_0 0 rfl rfl)
theorem dX0_moves_1 : decode cX0_moves 1 = .ok (.getfield 118, 3) := dk_180 0 118 (dk_at dksX0_moves_0 1 rfl rfl)
theorem dX0_moves_4 : decode cX0_moves 4 = .ok (.ifCond .ne 6, 3) := dk_154 0 6 (dk_at dksX0_moves_0 4 rfl rfl)
theorem dX0_moves_7 : decode cX0_moves 7 = .ok (.bipush (-2), 2) := dk_16 254 (dk_at dksX0_moves_0 7 rfl rfl)
theorem dX0_moves_9 : decode cX0_moves 9 = .ok (.ireturn, 1) := dk_172 (dk_at dksX0_moves_0 9 rfl rfl)
theorem dX0_moves_10 : decode cX0_moves 10 = .ok (.aload_n 0, 1) := dk_42 (dk_at dksX0_moves_0 10 rfl rfl)
theorem dX0_moves_11 : decode cX0_moves 11 = .ok (.iload_n 1, 1) := dk_27 (dk_at dksX0_moves_0 11 rfl rfl)
theorem dX0_moves_12 : decode cX0_moves 12 = .ok (.invokevirtual 143, 3) := dk_182 0 143 (dk_at dksX0_moves_0 12 rfl rfl)
theorem dX0_moves_15 : decode cX0_moves 15 = .ok (.ifCond .eq 22, 3) := dk_153 0 22 (dk_at dksX0_moves_0 15 rfl rfl)
theorem dX0_moves_18 : decode cX0_moves 18 = .ok (.aload_n 0, 1) := dk_42 (dk_at dksX0_moves_0 18 rfl rfl)
theorem dX0_moves_19 : decode cX0_moves 19 = .ok (.iload_n 2, 1) := dk_28 (dk_at dksX0_moves_0 19 rfl rfl)
theorem dX0_moves_20 : decode cX0_moves 20 = .ok (.invokevirtual 143, 3) := dk_182 0 143 (dk_at dksX0_moves_0 20 rfl rfl)
theorem dX0_moves_23 : decode cX0_moves 23 = .ok (.ifCond .eq 14, 3) := dk_153 0 14 (dk_at dksX0_moves_1 0 rfl rfl)
theorem dX0_moves_26 : decode cX0_moves 26 = .ok (.aload_n 0, 1) := dk_42 (dk_at dksX0_moves_1 3 rfl rfl)
theorem dX0_moves_27 : decode cX0_moves 27 = .ok (.iload_n 1, 1) := dk_27 (dk_at dksX0_moves_1 4 rfl rfl)
theorem dX0_moves_28 : decode cX0_moves 28 = .ok (.iload_n 2, 1) := dk_28 (dk_at dksX0_moves_1 5 rfl rfl)
theorem dX0_moves_29 : decode cX0_moves 29 = .ok (.iconst 0, 1) := dk_3 (dk_at dksX0_moves_1 6 rfl rfl)
theorem dX0_moves_30 : decode cX0_moves 30 = .ok (.iconst 0, 1) := dk_3 (dk_at dksX0_moves_1 7 rfl rfl)
theorem dX0_moves_31 : decode cX0_moves 31 = .ok (.invokevirtual 135, 3) := dk_182 0 135 (dk_at dksX0_moves_1 8 rfl rfl)
theorem dX0_moves_34 : decode cX0_moves 34 = .ok (.goto 4, 3) := dk_167 0 4 (dk_at dksX0_moves_1 11 rfl rfl)
theorem dX0_moves_37 : decode cX0_moves 37 = .ok (.iconst (-1), 1) := dk_2 (dk_at dksX0_moves_1 14 rfl rfl)
theorem dX0_moves_38 : decode cX0_moves 38 = .ok (.ireturn, 1) := dk_172 (dk_at dksX0_moves_1 15 rfl rfl)
abbrev cX0_work : ByteArray := prog_1_method_36_code
def yX0_work : MethodName := ⟨RX0, "work", "(II)I"⟩
def dkwX0_work_1 : List UInt8 := [182, 0, 143, 153, 0, 13, 42, 27, 182, 0, 158, 28, 46, 167, 0, 4, 2, 172]
abbrev dktX0_work_1 : List UInt8 := dkwX0_work_1 ++ []
def dkwX0_work_0 : List UInt8 := [42, 180, 0, 118, 154, 0, 6, 16, 254, 172, 27, 3, 42, 180, 0, 176, 184, 0, 101, 153, 0, 21, 42, 28]
abbrev dktX0_work_0 : List UInt8 := dkwX0_work_0 ++ dktX0_work_1
theorem dksX0_work_0 : cX0_work.data.toList.drop 0 = dktX0_work_0 := by decide +kernel
theorem dksX0_work_1 : cX0_work.data.toList.drop 24 = dktX0_work_1 := dk_seg dksX0_work_0 24 rfl rfl
theorem dX0_work_0 : decode cX0_work 0 = .ok (.aload_n 0, 1) := dk_42 (dk_at dksX0_work_0 0 rfl rfl)
theorem dX0_work_1 : decode cX0_work 1 = .ok (.getfield 118, 3) := dk_180 0 118 (dk_at dksX0_work_0 1 rfl rfl)
theorem dX0_work_4 : decode cX0_work 4 = .ok (.ifCond .ne 6, 3) := dk_154 0 6 (dk_at dksX0_work_0 4 rfl rfl)
theorem dX0_work_7 : decode cX0_work 7 = .ok (.bipush (-2), 2) := dk_16 254 (dk_at dksX0_work_0 7 rfl rfl)
theorem dX0_work_9 : decode cX0_work 9 = .ok (.ireturn, 1) := dk_172 (dk_at dksX0_work_0 9 rfl rfl)
theorem dX0_work_10 : decode cX0_work 10 = .ok (.iload_n 1, 1) := dk_27 (dk_at dksX0_work_0 10 rfl rfl)
theorem dX0_work_11 : decode cX0_work 11 = .ok (.iconst 0, 1) := dk_3 (dk_at dksX0_work_0 11 rfl rfl)
theorem dX0_work_12 : decode cX0_work 12 = .ok (.aload_n 0, 1) := dk_42 (dk_at dksX0_work_0 12 rfl rfl)
theorem dX0_work_13 : decode cX0_work 13 = .ok (.getfield 176, 3) := dk_180 0 176 (dk_at dksX0_work_0 13 rfl rfl)
theorem dX0_work_16 : decode cX0_work 16 = .ok (.invokestatic 101, 3) := dk_184 0 101 (dk_at dksX0_work_0 16 rfl rfl)
theorem dX0_work_19 : decode cX0_work 19 = .ok (.ifCond .eq 21, 3) := dk_153 0 21 (dk_at dksX0_work_0 19 rfl rfl)
theorem dX0_work_22 : decode cX0_work 22 = .ok (.aload_n 0, 1) := dk_42 (dk_at dksX0_work_0 22 rfl rfl)
theorem dX0_work_23 : decode cX0_work 23 = .ok (.iload_n 2, 1) := dk_28 (dk_at dksX0_work_0 23 rfl rfl)
theorem dX0_work_24 : decode cX0_work 24 = .ok (.invokevirtual 143, 3) := dk_182 0 143 (dk_at dksX0_work_1 0 rfl rfl)
theorem dX0_work_27 : decode cX0_work 27 = .ok (.ifCond .eq 13, 3) := dk_153 0 13 (dk_at dksX0_work_1 3 rfl rfl)
theorem dX0_work_30 : decode cX0_work 30 = .ok (.aload_n 0, 1) := dk_42 (dk_at dksX0_work_1 6 rfl rfl)
theorem dX0_work_31 : decode cX0_work 31 = .ok (.iload_n 1, 1) := dk_27 (dk_at dksX0_work_1 7 rfl rfl)
theorem dX0_work_32 : decode cX0_work 32 = .ok (.invokevirtual 158, 3) := dk_182 0 158 (dk_at dksX0_work_1 8 rfl rfl)
theorem dX0_work_35 : decode cX0_work 35 = .ok (.iload_n 2, 1) := dk_28 (dk_at dksX0_work_1 11 rfl rfl)
theorem dX0_work_36 : decode cX0_work 36 = .ok (.iaload, 1) := dk_46 (dk_at dksX0_work_1 12 rfl rfl)
theorem dX0_work_37 : decode cX0_work 37 = .ok (.goto 4, 3) := dk_167 0 4 (dk_at dksX0_work_1 13 rfl rfl)
theorem dX0_work_40 : decode cX0_work 40 = .ok (.iconst (-1), 1) := dk_2 (dk_at dksX0_work_1 16 rfl rfl)
theorem dX0_work_41 : decode cX0_work 41 = .ok (.ireturn, 1) := dk_172 (dk_at dksX0_work_1 17 rfl rfl)
abbrev cX0_least : ByteArray := prog_1_method_37_code
def yX0_least : MethodName := ⟨RX0, "least", "(I)I"⟩
def dkwX0_least_1 : List UInt8 := [182, 0, 215, 167, 0, 4, 2, 172]
abbrev dktX0_least_1 : List UInt8 := dkwX0_least_1 ++ []
def dkwX0_least_0 : List UInt8 := [42, 180, 0, 118, 154, 0, 6, 16, 254, 172, 27, 3, 42, 180, 0, 176, 184, 0, 101, 153, 0, 11, 42, 27]
abbrev dktX0_least_0 : List UInt8 := dkwX0_least_0 ++ dktX0_least_1
theorem dksX0_least_0 : cX0_least.data.toList.drop 0 = dktX0_least_0 := by decide +kernel
theorem dksX0_least_1 : cX0_least.data.toList.drop 24 = dktX0_least_1 := dk_seg dksX0_least_0 24 rfl rfl
theorem dX0_least_0 : decode cX0_least 0 = .ok (.aload_n 0, 1) := dk_42 (dk_at dksX0_least_0 0 rfl rfl)
theorem dX0_least_1 : decode cX0_least 1 = .ok (.getfield 118, 3) := dk_180 0 118 (dk_at dksX0_least_0 1 rfl rfl)
theorem dX0_least_4 : decode cX0_least 4 = .ok (.ifCond .ne 6, 3) := dk_154 0 6 (dk_at dksX0_least_0 4 rfl rfl)
theorem dX0_least_7 : decode cX0_least 7 = .ok (.bipush (-2), 2) := dk_16 254 (dk_at dksX0_least_0 7 rfl rfl)
theorem dX0_least_9 : decode cX0_least 9 = .ok (.ireturn, 1) := dk_172 (dk_at dksX0_least_0 9 rfl rfl)
theorem dX0_least_10 : decode cX0_least 10 = .ok (.iload_n 1, 1) := dk_27 (dk_at dksX0_least_0 10 rfl rfl)
theorem dX0_least_11 : decode cX0_least 11 = .ok (.iconst 0, 1) := dk_3 (dk_at dksX0_least_0 11 rfl rfl)
theorem dX0_least_12 : decode cX0_least 12 = .ok (.aload_n 0, 1) := dk_42 (dk_at dksX0_least_0 12 rfl rfl)
theorem dX0_least_13 : decode cX0_least 13 = .ok (.getfield 176, 3) := dk_180 0 176 (dk_at dksX0_least_0 13 rfl rfl)
theorem dX0_least_16 : decode cX0_least 16 = .ok (.invokestatic 101, 3) := dk_184 0 101 (dk_at dksX0_least_0 16 rfl rfl)
theorem dX0_least_19 : decode cX0_least 19 = .ok (.ifCond .eq 11, 3) := dk_153 0 11 (dk_at dksX0_least_0 19 rfl rfl)
theorem dX0_least_22 : decode cX0_least 22 = .ok (.aload_n 0, 1) := dk_42 (dk_at dksX0_least_0 22 rfl rfl)
theorem dX0_least_23 : decode cX0_least 23 = .ok (.iload_n 1, 1) := dk_27 (dk_at dksX0_least_0 23 rfl rfl)
theorem dX0_least_24 : decode cX0_least 24 = .ok (.invokevirtual 215, 3) := dk_182 0 215 (dk_at dksX0_least_1 0 rfl rfl)
theorem dX0_least_27 : decode cX0_least 27 = .ok (.goto 4, 3) := dk_167 0 4 (dk_at dksX0_least_1 3 rfl rfl)
theorem dX0_least_30 : decode cX0_least 30 = .ok (.iconst (-1), 1) := dk_2 (dk_at dksX0_least_1 6 rfl rfl)
theorem dX0_least_31 : decode cX0_least 31 = .ok (.ireturn, 1) := dk_172 (dk_at dksX0_least_1 7 rfl rfl)
abbrev cX0_leastOf : ByteArray := prog_1_method_18_code
def yX0_leastOf : MethodName := ⟨RX0, "leastOf", "(I)I"⟩
def dkwX0_leastOf_1 : List UInt8 := [21, 4, 46, 184, 0, 109, 62, 132, 4, 1, 167, 255, 235, 29, 172]
abbrev dktX0_leastOf_1 : List UInt8 := dkwX0_leastOf_1 ++ []
def dkwX0_leastOf_0 : List UInt8 := [42, 27, 182, 0, 158, 77, 18, 105, 62, 3, 54, 4, 21, 4, 42, 182, 0, 139, 162, 0, 18, 29, 44]
abbrev dktX0_leastOf_0 : List UInt8 := dkwX0_leastOf_0 ++ dktX0_leastOf_1
theorem dksX0_leastOf_0 : cX0_leastOf.data.toList.drop 0 = dktX0_leastOf_0 := by decide +kernel
theorem dksX0_leastOf_1 : cX0_leastOf.data.toList.drop 23 = dktX0_leastOf_1 := dk_seg dksX0_leastOf_0 23 rfl rfl
theorem dX0_leastOf_0 : decode cX0_leastOf 0 = .ok (.aload_n 0, 1) := dk_42 (dk_at dksX0_leastOf_0 0 rfl rfl)
theorem dX0_leastOf_1 : decode cX0_leastOf 1 = .ok (.iload_n 1, 1) := dk_27 (dk_at dksX0_leastOf_0 1 rfl rfl)
theorem dX0_leastOf_2 : decode cX0_leastOf 2 = .ok (.invokevirtual 158, 3) := dk_182 0 158 (dk_at dksX0_leastOf_0 2 rfl rfl)
theorem dX0_leastOf_5 : decode cX0_leastOf 5 = .ok (.astore_n 2, 1) := dk_77 (dk_at dksX0_leastOf_0 5 rfl rfl)
theorem dX0_leastOf_6 : decode cX0_leastOf 6 = .ok (.ldc 105, 2) := dk_18 105 (dk_at dksX0_leastOf_0 6 rfl rfl)
theorem dX0_leastOf_8 : decode cX0_leastOf 8 = .ok (.istore_n 3, 1) := dk_62 (dk_at dksX0_leastOf_0 8 rfl rfl)
theorem dX0_leastOf_9 : decode cX0_leastOf 9 = .ok (.iconst 0, 1) := dk_3 (dk_at dksX0_leastOf_0 9 rfl rfl)
theorem dX0_leastOf_10 : decode cX0_leastOf 10 = .ok (.istore 4, 2) := dk_54 4 (dk_at dksX0_leastOf_0 10 rfl rfl)
theorem dX0_leastOf_12 : decode cX0_leastOf 12 = .ok (.iload 4, 2) := dk_21 4 (dk_at dksX0_leastOf_0 12 rfl rfl)
theorem dX0_leastOf_14 : decode cX0_leastOf 14 = .ok (.aload_n 0, 1) := dk_42 (dk_at dksX0_leastOf_0 14 rfl rfl)
theorem dX0_leastOf_15 : decode cX0_leastOf 15 = .ok (.invokevirtual 139, 3) := dk_182 0 139 (dk_at dksX0_leastOf_0 15 rfl rfl)
theorem dX0_leastOf_18 : decode cX0_leastOf 18 = .ok (.if_icmp .ge 18, 3) := dk_162 0 18 (dk_at dksX0_leastOf_0 18 rfl rfl)
theorem dX0_leastOf_21 : decode cX0_leastOf 21 = .ok (.iload_n 3, 1) := dk_29 (dk_at dksX0_leastOf_0 21 rfl rfl)
theorem dX0_leastOf_22 : decode cX0_leastOf 22 = .ok (.aload_n 2, 1) := dk_44 (dk_at dksX0_leastOf_0 22 rfl rfl)
theorem dX0_leastOf_23 : decode cX0_leastOf 23 = .ok (.iload 4, 2) := dk_21 4 (dk_at dksX0_leastOf_1 0 rfl rfl)
theorem dX0_leastOf_25 : decode cX0_leastOf 25 = .ok (.iaload, 1) := dk_46 (dk_at dksX0_leastOf_1 2 rfl rfl)
theorem dX0_leastOf_26 : decode cX0_leastOf 26 = .ok (.invokestatic 109, 3) := dk_184 0 109 (dk_at dksX0_leastOf_1 3 rfl rfl)
theorem dX0_leastOf_29 : decode cX0_leastOf 29 = .ok (.istore_n 3, 1) := dk_62 (dk_at dksX0_leastOf_1 6 rfl rfl)
theorem dX0_leastOf_30 : decode cX0_leastOf 30 = .ok (.iinc 4 1, 3) := dk_132 4 1 (dk_at dksX0_leastOf_1 7 rfl rfl)
theorem dX0_leastOf_33 : decode cX0_leastOf 33 = .ok (.goto (-21), 3) := dk_167 255 235 (dk_at dksX0_leastOf_1 10 rfl rfl)
theorem dX0_leastOf_36 : decode cX0_leastOf 36 = .ok (.iload_n 3, 1) := dk_29 (dk_at dksX0_leastOf_1 13 rfl rfl)
theorem dX0_leastOf_37 : decode cX0_leastOf 37 = .ok (.ireturn, 1) := dk_172 (dk_at dksX0_leastOf_1 14 rfl rfl)
abbrev cX0_plan : ByteArray := prog_1_method_38_code
def yX0_plan : MethodName := ⟨RX0, "plan", "(II)I"⟩
def dkwX0_plan_5 : List UInt8 := [21, 4, 21, 6, 184, 0, 149, 62, 132, 5, 1, 167, 255, 177, 21, 4, 172]
abbrev dktX0_plan_5 : List UInt8 := dkwX0_plan_5 ++ []
def dkwX0_plan_4 : List UInt8 := [184, 0, 149, 46, 96, 42, 180, 0, 70, 21, 5, 50, 29, 46, 159, 0, 9, 132, 4, 1, 167, 255, 210, 29]
abbrev dktX0_plan_4 : List UInt8 := dkwX0_plan_4 ++ dktX0_plan_5
def dkwX0_plan_3 : List UInt8 := [21, 4, 184, 0, 132, 21, 6, 182, 0, 115, 42, 180, 0, 70, 21, 5, 4, 96, 50, 29, 21, 4, 21, 6]
abbrev dktX0_plan_3 : List UInt8 := dkwX0_plan_3 ++ dktX0_plan_4
def dkwX0_plan_2 : List UInt8 := [3, 54, 5, 21, 5, 28, 163, 0, 79, 42, 180, 0, 25, 21, 5, 46, 54, 6, 3, 54, 4, 42, 29]
abbrev dktX0_plan_2 : List UInt8 := dkwX0_plan_2 ++ dktX0_plan_3
def dkwX0_plan_1 : List UInt8 := [27, 4, 100, 184, 0, 101, 154, 0, 5, 2, 172, 42, 27, 182, 0, 218, 42, 180, 0, 146, 62, 3, 54, 4]
abbrev dktX0_plan_1 : List UInt8 := dkwX0_plan_1 ++ dktX0_plan_2
def dkwX0_plan_0 : List UInt8 := [42, 180, 0, 118, 154, 0, 6, 16, 254, 172, 27, 3, 42, 180, 0, 176, 184, 0, 101, 153, 0, 14, 28, 3]
abbrev dktX0_plan_0 : List UInt8 := dkwX0_plan_0 ++ dktX0_plan_1
theorem dksX0_plan_0 : cX0_plan.data.toList.drop 0 = dktX0_plan_0 := by decide +kernel
theorem dksX0_plan_1 : cX0_plan.data.toList.drop 24 = dktX0_plan_1 := dk_seg dksX0_plan_0 24 rfl rfl
theorem dksX0_plan_2 : cX0_plan.data.toList.drop 48 = dktX0_plan_2 := dk_seg dksX0_plan_1 24 rfl rfl
theorem dksX0_plan_3 : cX0_plan.data.toList.drop 71 = dktX0_plan_3 := dk_seg dksX0_plan_2 23 rfl rfl
theorem dksX0_plan_4 : cX0_plan.data.toList.drop 95 = dktX0_plan_4 := dk_seg dksX0_plan_3 24 rfl rfl
theorem dksX0_plan_5 : cX0_plan.data.toList.drop 119 = dktX0_plan_5 := dk_seg dksX0_plan_4 24 rfl rfl
theorem dX0_plan_0 : decode cX0_plan 0 = .ok (.aload_n 0, 1) := dk_42 (dk_at dksX0_plan_0 0 rfl rfl)
theorem dX0_plan_1 : decode cX0_plan 1 = .ok (.getfield 118, 3) := dk_180 0 118 (dk_at dksX0_plan_0 1 rfl rfl)
theorem dX0_plan_4 : decode cX0_plan 4 = .ok (.ifCond .ne 6, 3) := dk_154 0 6 (dk_at dksX0_plan_0 4 rfl rfl)
theorem dX0_plan_7 : decode cX0_plan 7 = .ok (.bipush (-2), 2) := dk_16 254 (dk_at dksX0_plan_0 7 rfl rfl)
theorem dX0_plan_9 : decode cX0_plan 9 = .ok (.ireturn, 1) := dk_172 (dk_at dksX0_plan_0 9 rfl rfl)
theorem dX0_plan_10 : decode cX0_plan 10 = .ok (.iload_n 1, 1) := dk_27 (dk_at dksX0_plan_0 10 rfl rfl)
theorem dX0_plan_11 : decode cX0_plan 11 = .ok (.iconst 0, 1) := dk_3 (dk_at dksX0_plan_0 11 rfl rfl)
theorem dX0_plan_12 : decode cX0_plan 12 = .ok (.aload_n 0, 1) := dk_42 (dk_at dksX0_plan_0 12 rfl rfl)
theorem dX0_plan_13 : decode cX0_plan 13 = .ok (.getfield 176, 3) := dk_180 0 176 (dk_at dksX0_plan_0 13 rfl rfl)
theorem dX0_plan_16 : decode cX0_plan 16 = .ok (.invokestatic 101, 3) := dk_184 0 101 (dk_at dksX0_plan_0 16 rfl rfl)
theorem dX0_plan_19 : decode cX0_plan 19 = .ok (.ifCond .eq 14, 3) := dk_153 0 14 (dk_at dksX0_plan_0 19 rfl rfl)
theorem dX0_plan_22 : decode cX0_plan 22 = .ok (.iload_n 2, 1) := dk_28 (dk_at dksX0_plan_0 22 rfl rfl)
theorem dX0_plan_23 : decode cX0_plan 23 = .ok (.iconst 0, 1) := dk_3 (dk_at dksX0_plan_0 23 rfl rfl)
theorem dX0_plan_24 : decode cX0_plan 24 = .ok (.iload_n 1, 1) := dk_27 (dk_at dksX0_plan_1 0 rfl rfl)
theorem dX0_plan_25 : decode cX0_plan 25 = .ok (.iconst 1, 1) := dk_4 (dk_at dksX0_plan_1 1 rfl rfl)
theorem dX0_plan_26 : decode cX0_plan 26 = .ok (.isub, 1) := dk_100 (dk_at dksX0_plan_1 2 rfl rfl)
theorem dX0_plan_27 : decode cX0_plan 27 = .ok (.invokestatic 101, 3) := dk_184 0 101 (dk_at dksX0_plan_1 3 rfl rfl)
theorem dX0_plan_30 : decode cX0_plan 30 = .ok (.ifCond .ne 5, 3) := dk_154 0 5 (dk_at dksX0_plan_1 6 rfl rfl)
theorem dX0_plan_33 : decode cX0_plan 33 = .ok (.iconst (-1), 1) := dk_2 (dk_at dksX0_plan_1 9 rfl rfl)
theorem dX0_plan_34 : decode cX0_plan 34 = .ok (.ireturn, 1) := dk_172 (dk_at dksX0_plan_1 10 rfl rfl)
theorem dX0_plan_35 : decode cX0_plan 35 = .ok (.aload_n 0, 1) := dk_42 (dk_at dksX0_plan_1 11 rfl rfl)
theorem dX0_plan_36 : decode cX0_plan 36 = .ok (.iload_n 1, 1) := dk_27 (dk_at dksX0_plan_1 12 rfl rfl)
theorem dX0_plan_37 : decode cX0_plan 37 = .ok (.invokevirtual 218, 3) := dk_182 0 218 (dk_at dksX0_plan_1 13 rfl rfl)
theorem dX0_plan_40 : decode cX0_plan 40 = .ok (.aload_n 0, 1) := dk_42 (dk_at dksX0_plan_1 16 rfl rfl)
theorem dX0_plan_41 : decode cX0_plan 41 = .ok (.getfield 146, 3) := dk_180 0 146 (dk_at dksX0_plan_1 17 rfl rfl)
theorem dX0_plan_44 : decode cX0_plan 44 = .ok (.istore_n 3, 1) := dk_62 (dk_at dksX0_plan_1 20 rfl rfl)
theorem dX0_plan_45 : decode cX0_plan 45 = .ok (.iconst 0, 1) := dk_3 (dk_at dksX0_plan_1 21 rfl rfl)
theorem dX0_plan_46 : decode cX0_plan 46 = .ok (.istore 4, 2) := dk_54 4 (dk_at dksX0_plan_1 22 rfl rfl)
theorem dX0_plan_48 : decode cX0_plan 48 = .ok (.iconst 0, 1) := dk_3 (dk_at dksX0_plan_2 0 rfl rfl)
theorem dX0_plan_49 : decode cX0_plan 49 = .ok (.istore 5, 2) := dk_54 5 (dk_at dksX0_plan_2 1 rfl rfl)
theorem dX0_plan_51 : decode cX0_plan 51 = .ok (.iload 5, 2) := dk_21 5 (dk_at dksX0_plan_2 3 rfl rfl)
theorem dX0_plan_53 : decode cX0_plan 53 = .ok (.iload_n 2, 1) := dk_28 (dk_at dksX0_plan_2 5 rfl rfl)
theorem dX0_plan_54 : decode cX0_plan 54 = .ok (.if_icmp .gt 79, 3) := dk_163 0 79 (dk_at dksX0_plan_2 6 rfl rfl)
theorem dX0_plan_57 : decode cX0_plan 57 = .ok (.aload_n 0, 1) := dk_42 (dk_at dksX0_plan_2 9 rfl rfl)
theorem dX0_plan_58 : decode cX0_plan 58 = .ok (.getfield 25, 3) := dk_180 0 25 (dk_at dksX0_plan_2 10 rfl rfl)
theorem dX0_plan_61 : decode cX0_plan 61 = .ok (.iload 5, 2) := dk_21 5 (dk_at dksX0_plan_2 13 rfl rfl)
theorem dX0_plan_63 : decode cX0_plan 63 = .ok (.iaload, 1) := dk_46 (dk_at dksX0_plan_2 15 rfl rfl)
theorem dX0_plan_64 : decode cX0_plan 64 = .ok (.istore 6, 2) := dk_54 6 (dk_at dksX0_plan_2 16 rfl rfl)
theorem dX0_plan_66 : decode cX0_plan 66 = .ok (.iconst 0, 1) := dk_3 (dk_at dksX0_plan_2 18 rfl rfl)
theorem dX0_plan_67 : decode cX0_plan 67 = .ok (.istore 4, 2) := dk_54 4 (dk_at dksX0_plan_2 19 rfl rfl)
theorem dX0_plan_69 : decode cX0_plan 69 = .ok (.aload_n 0, 1) := dk_42 (dk_at dksX0_plan_2 21 rfl rfl)
theorem dX0_plan_70 : decode cX0_plan 70 = .ok (.iload_n 3, 1) := dk_29 (dk_at dksX0_plan_2 22 rfl rfl)
theorem dX0_plan_71 : decode cX0_plan 71 = .ok (.iload 4, 2) := dk_21 4 (dk_at dksX0_plan_3 0 rfl rfl)
theorem dX0_plan_73 : decode cX0_plan 73 = .ok (.invokestatic 132, 3) := dk_184 0 132 (dk_at dksX0_plan_3 2 rfl rfl)
theorem dX0_plan_76 : decode cX0_plan 76 = .ok (.iload 6, 2) := dk_21 6 (dk_at dksX0_plan_3 5 rfl rfl)
theorem dX0_plan_78 : decode cX0_plan 78 = .ok (.invokevirtual 115, 3) := dk_182 0 115 (dk_at dksX0_plan_3 7 rfl rfl)
theorem dX0_plan_81 : decode cX0_plan 81 = .ok (.aload_n 0, 1) := dk_42 (dk_at dksX0_plan_3 10 rfl rfl)
theorem dX0_plan_82 : decode cX0_plan 82 = .ok (.getfield 70, 3) := dk_180 0 70 (dk_at dksX0_plan_3 11 rfl rfl)
theorem dX0_plan_85 : decode cX0_plan 85 = .ok (.iload 5, 2) := dk_21 5 (dk_at dksX0_plan_3 14 rfl rfl)
theorem dX0_plan_87 : decode cX0_plan 87 = .ok (.iconst 1, 1) := dk_4 (dk_at dksX0_plan_3 16 rfl rfl)
theorem dX0_plan_88 : decode cX0_plan 88 = .ok (.iadd, 1) := dk_96 (dk_at dksX0_plan_3 17 rfl rfl)
theorem dX0_plan_89 : decode cX0_plan 89 = .ok (.aaload, 1) := dk_50 (dk_at dksX0_plan_3 18 rfl rfl)
theorem dX0_plan_90 : decode cX0_plan 90 = .ok (.iload_n 3, 1) := dk_29 (dk_at dksX0_plan_3 19 rfl rfl)
theorem dX0_plan_91 : decode cX0_plan 91 = .ok (.iload 4, 2) := dk_21 4 (dk_at dksX0_plan_3 20 rfl rfl)
theorem dX0_plan_93 : decode cX0_plan 93 = .ok (.iload 6, 2) := dk_21 6 (dk_at dksX0_plan_3 22 rfl rfl)
theorem dX0_plan_95 : decode cX0_plan 95 = .ok (.invokestatic 149, 3) := dk_184 0 149 (dk_at dksX0_plan_4 0 rfl rfl)
theorem dX0_plan_98 : decode cX0_plan 98 = .ok (.iaload, 1) := dk_46 (dk_at dksX0_plan_4 3 rfl rfl)
theorem dX0_plan_99 : decode cX0_plan 99 = .ok (.iadd, 1) := dk_96 (dk_at dksX0_plan_4 4 rfl rfl)
theorem dX0_plan_100 : decode cX0_plan 100 = .ok (.aload_n 0, 1) := dk_42 (dk_at dksX0_plan_4 5 rfl rfl)
theorem dX0_plan_101 : decode cX0_plan 101 = .ok (.getfield 70, 3) := dk_180 0 70 (dk_at dksX0_plan_4 6 rfl rfl)
theorem dX0_plan_104 : decode cX0_plan 104 = .ok (.iload 5, 2) := dk_21 5 (dk_at dksX0_plan_4 9 rfl rfl)
theorem dX0_plan_106 : decode cX0_plan 106 = .ok (.aaload, 1) := dk_50 (dk_at dksX0_plan_4 11 rfl rfl)
theorem dX0_plan_107 : decode cX0_plan 107 = .ok (.iload_n 3, 1) := dk_29 (dk_at dksX0_plan_4 12 rfl rfl)
theorem dX0_plan_108 : decode cX0_plan 108 = .ok (.iaload, 1) := dk_46 (dk_at dksX0_plan_4 13 rfl rfl)
theorem dX0_plan_109 : decode cX0_plan 109 = .ok (.if_icmp .eq 9, 3) := dk_159 0 9 (dk_at dksX0_plan_4 14 rfl rfl)
theorem dX0_plan_112 : decode cX0_plan 112 = .ok (.iinc 4 1, 3) := dk_132 4 1 (dk_at dksX0_plan_4 17 rfl rfl)
theorem dX0_plan_115 : decode cX0_plan 115 = .ok (.goto (-46), 3) := dk_167 255 210 (dk_at dksX0_plan_4 20 rfl rfl)
theorem dX0_plan_118 : decode cX0_plan 118 = .ok (.iload_n 3, 1) := dk_29 (dk_at dksX0_plan_4 23 rfl rfl)
theorem dX0_plan_119 : decode cX0_plan 119 = .ok (.iload 4, 2) := dk_21 4 (dk_at dksX0_plan_5 0 rfl rfl)
theorem dX0_plan_121 : decode cX0_plan 121 = .ok (.iload 6, 2) := dk_21 6 (dk_at dksX0_plan_5 2 rfl rfl)
theorem dX0_plan_123 : decode cX0_plan 123 = .ok (.invokestatic 149, 3) := dk_184 0 149 (dk_at dksX0_plan_5 4 rfl rfl)
theorem dX0_plan_126 : decode cX0_plan 126 = .ok (.istore_n 3, 1) := dk_62 (dk_at dksX0_plan_5 7 rfl rfl)
theorem dX0_plan_127 : decode cX0_plan 127 = .ok (.iinc 5 1, 3) := dk_132 5 1 (dk_at dksX0_plan_5 8 rfl rfl)
theorem dX0_plan_130 : decode cX0_plan 130 = .ok (.goto (-79), 3) := dk_167 255 177 (dk_at dksX0_plan_5 11 rfl rfl)
theorem dX0_plan_133 : decode cX0_plan 133 = .ok (.iload 4, 2) := dk_21 4 (dk_at dksX0_plan_5 14 rfl rfl)
theorem dX0_plan_135 : decode cX0_plan 135 = .ok (.ireturn, 1) := dk_172 (dk_at dksX0_plan_5 16 rfl rfl)
abbrev cX0_findRest : ByteArray := prog_1_method_19_code
def yX0_findRest : MethodName := ⟨RX0, "findRest", "(I)V"⟩
def dkwX0_findRest_6 : List UInt8 := [132, 2, 255, 167, 255, 145, 177]
abbrev dktX0_findRest_6 : List UInt8 := dkwX0_findRest_6 ++ []
def dkwX0_findRest_5 : List UInt8 := [132, 6, 1, 167, 255, 198, 42, 180, 0, 70, 28, 50, 21, 4, 21, 5, 79, 132, 4, 1, 167, 255, 165]
abbrev dktX0_findRest_5 : List UInt8 := dkwX0_findRest_5 ++ dktX0_findRest_6
def dkwX0_findRest_4 : List UInt8 := [180, 0, 70, 28, 4, 96, 50, 21, 4, 21, 6, 29, 184, 0, 149, 46, 96, 184, 0, 109, 54, 5]
abbrev dktX0_findRest_4 : List UInt8 := dkwX0_findRest_4 ++ dktX0_findRest_5
def dkwX0_findRest_3 : List UInt8 := [21, 4, 182, 0, 143, 153, 0, 46, 21, 5, 42, 21, 4, 21, 6, 184, 0, 132, 29, 182, 0, 115, 42]
abbrev dktX0_findRest_3 : List UInt8 := dkwX0_findRest_3 ++ dktX0_findRest_4
def dkwX0_findRest_2 : List UInt8 := [182, 0, 139, 162, 0, 88, 18, 105, 54, 5, 3, 54, 6, 21, 6, 42, 180, 0, 118, 162, 0, 55, 42]
abbrev dktX0_findRest_2 : List UInt8 := dkwX0_findRest_2 ++ dktX0_findRest_3
def dkwX0_findRest_1 : List UInt8 := [167, 255, 236, 27, 4, 100, 61, 28, 155, 0, 113, 42, 180, 0, 25, 28, 46, 62, 3, 54, 4, 21, 4, 42]
abbrev dktX0_findRest_1 : List UInt8 := dkwX0_findRest_1 ++ dktX0_findRest_2
def dkwX0_findRest_0 : List UInt8 := [3, 61, 28, 42, 182, 0, 139, 162, 0, 18, 42, 180, 0, 70, 27, 50, 28, 3, 79, 132, 2, 1]
abbrev dktX0_findRest_0 : List UInt8 := dkwX0_findRest_0 ++ dktX0_findRest_1
theorem dksX0_findRest_0 : cX0_findRest.data.toList.drop 0 = dktX0_findRest_0 := by decide +kernel
theorem dksX0_findRest_1 : cX0_findRest.data.toList.drop 22 = dktX0_findRest_1 := dk_seg dksX0_findRest_0 22 rfl rfl
theorem dksX0_findRest_2 : cX0_findRest.data.toList.drop 46 = dktX0_findRest_2 := dk_seg dksX0_findRest_1 24 rfl rfl
theorem dksX0_findRest_3 : cX0_findRest.data.toList.drop 69 = dktX0_findRest_3 := dk_seg dksX0_findRest_2 23 rfl rfl
theorem dksX0_findRest_4 : cX0_findRest.data.toList.drop 92 = dktX0_findRest_4 := dk_seg dksX0_findRest_3 23 rfl rfl
theorem dksX0_findRest_5 : cX0_findRest.data.toList.drop 114 = dktX0_findRest_5 := dk_seg dksX0_findRest_4 22 rfl rfl
theorem dksX0_findRest_6 : cX0_findRest.data.toList.drop 137 = dktX0_findRest_6 := dk_seg dksX0_findRest_5 23 rfl rfl
theorem dX0_findRest_0 : decode cX0_findRest 0 = .ok (.iconst 0, 1) := dk_3 (dk_at dksX0_findRest_0 0 rfl rfl)
theorem dX0_findRest_1 : decode cX0_findRest 1 = .ok (.istore_n 2, 1) := dk_61 (dk_at dksX0_findRest_0 1 rfl rfl)
theorem dX0_findRest_2 : decode cX0_findRest 2 = .ok (.iload_n 2, 1) := dk_28 (dk_at dksX0_findRest_0 2 rfl rfl)
theorem dX0_findRest_3 : decode cX0_findRest 3 = .ok (.aload_n 0, 1) := dk_42 (dk_at dksX0_findRest_0 3 rfl rfl)
theorem dX0_findRest_4 : decode cX0_findRest 4 = .ok (.invokevirtual 139, 3) := dk_182 0 139 (dk_at dksX0_findRest_0 4 rfl rfl)
theorem dX0_findRest_7 : decode cX0_findRest 7 = .ok (.if_icmp .ge 18, 3) := dk_162 0 18 (dk_at dksX0_findRest_0 7 rfl rfl)
theorem dX0_findRest_10 : decode cX0_findRest 10 = .ok (.aload_n 0, 1) := dk_42 (dk_at dksX0_findRest_0 10 rfl rfl)
theorem dX0_findRest_11 : decode cX0_findRest 11 = .ok (.getfield 70, 3) := dk_180 0 70 (dk_at dksX0_findRest_0 11 rfl rfl)
theorem dX0_findRest_14 : decode cX0_findRest 14 = .ok (.iload_n 1, 1) := dk_27 (dk_at dksX0_findRest_0 14 rfl rfl)
theorem dX0_findRest_15 : decode cX0_findRest 15 = .ok (.aaload, 1) := dk_50 (dk_at dksX0_findRest_0 15 rfl rfl)
theorem dX0_findRest_16 : decode cX0_findRest 16 = .ok (.iload_n 2, 1) := dk_28 (dk_at dksX0_findRest_0 16 rfl rfl)
theorem dX0_findRest_17 : decode cX0_findRest 17 = .ok (.iconst 0, 1) := dk_3 (dk_at dksX0_findRest_0 17 rfl rfl)
theorem dX0_findRest_18 : decode cX0_findRest 18 = .ok (.iastore, 1) := dk_79 (dk_at dksX0_findRest_0 18 rfl rfl)
theorem dX0_findRest_19 : decode cX0_findRest 19 = .ok (.iinc 2 1, 3) := dk_132 2 1 (dk_at dksX0_findRest_0 19 rfl rfl)
theorem dX0_findRest_22 : decode cX0_findRest 22 = .ok (.goto (-20), 3) := dk_167 255 236 (dk_at dksX0_findRest_1 0 rfl rfl)
theorem dX0_findRest_25 : decode cX0_findRest 25 = .ok (.iload_n 1, 1) := dk_27 (dk_at dksX0_findRest_1 3 rfl rfl)
theorem dX0_findRest_26 : decode cX0_findRest 26 = .ok (.iconst 1, 1) := dk_4 (dk_at dksX0_findRest_1 4 rfl rfl)
theorem dX0_findRest_27 : decode cX0_findRest 27 = .ok (.isub, 1) := dk_100 (dk_at dksX0_findRest_1 5 rfl rfl)
theorem dX0_findRest_28 : decode cX0_findRest 28 = .ok (.istore_n 2, 1) := dk_61 (dk_at dksX0_findRest_1 6 rfl rfl)
theorem dX0_findRest_29 : decode cX0_findRest 29 = .ok (.iload_n 2, 1) := dk_28 (dk_at dksX0_findRest_1 7 rfl rfl)
theorem dX0_findRest_30 : decode cX0_findRest 30 = .ok (.ifCond .lt 113, 3) := dk_155 0 113 (dk_at dksX0_findRest_1 8 rfl rfl)
theorem dX0_findRest_33 : decode cX0_findRest 33 = .ok (.aload_n 0, 1) := dk_42 (dk_at dksX0_findRest_1 11 rfl rfl)
theorem dX0_findRest_34 : decode cX0_findRest 34 = .ok (.getfield 25, 3) := dk_180 0 25 (dk_at dksX0_findRest_1 12 rfl rfl)
theorem dX0_findRest_37 : decode cX0_findRest 37 = .ok (.iload_n 2, 1) := dk_28 (dk_at dksX0_findRest_1 15 rfl rfl)
theorem dX0_findRest_38 : decode cX0_findRest 38 = .ok (.iaload, 1) := dk_46 (dk_at dksX0_findRest_1 16 rfl rfl)
theorem dX0_findRest_39 : decode cX0_findRest 39 = .ok (.istore_n 3, 1) := dk_62 (dk_at dksX0_findRest_1 17 rfl rfl)
theorem dX0_findRest_40 : decode cX0_findRest 40 = .ok (.iconst 0, 1) := dk_3 (dk_at dksX0_findRest_1 18 rfl rfl)
theorem dX0_findRest_41 : decode cX0_findRest 41 = .ok (.istore 4, 2) := dk_54 4 (dk_at dksX0_findRest_1 19 rfl rfl)
theorem dX0_findRest_43 : decode cX0_findRest 43 = .ok (.iload 4, 2) := dk_21 4 (dk_at dksX0_findRest_1 21 rfl rfl)
theorem dX0_findRest_45 : decode cX0_findRest 45 = .ok (.aload_n 0, 1) := dk_42 (dk_at dksX0_findRest_1 23 rfl rfl)
theorem dX0_findRest_46 : decode cX0_findRest 46 = .ok (.invokevirtual 139, 3) := dk_182 0 139 (dk_at dksX0_findRest_2 0 rfl rfl)
theorem dX0_findRest_49 : decode cX0_findRest 49 = .ok (.if_icmp .ge 88, 3) := dk_162 0 88 (dk_at dksX0_findRest_2 3 rfl rfl)
theorem dX0_findRest_52 : decode cX0_findRest 52 = .ok (.ldc 105, 2) := dk_18 105 (dk_at dksX0_findRest_2 6 rfl rfl)
theorem dX0_findRest_54 : decode cX0_findRest 54 = .ok (.istore 5, 2) := dk_54 5 (dk_at dksX0_findRest_2 8 rfl rfl)
theorem dX0_findRest_56 : decode cX0_findRest 56 = .ok (.iconst 0, 1) := dk_3 (dk_at dksX0_findRest_2 10 rfl rfl)
theorem dX0_findRest_57 : decode cX0_findRest 57 = .ok (.istore 6, 2) := dk_54 6 (dk_at dksX0_findRest_2 11 rfl rfl)
theorem dX0_findRest_59 : decode cX0_findRest 59 = .ok (.iload 6, 2) := dk_21 6 (dk_at dksX0_findRest_2 13 rfl rfl)
theorem dX0_findRest_61 : decode cX0_findRest 61 = .ok (.aload_n 0, 1) := dk_42 (dk_at dksX0_findRest_2 15 rfl rfl)
theorem dX0_findRest_62 : decode cX0_findRest 62 = .ok (.getfield 118, 3) := dk_180 0 118 (dk_at dksX0_findRest_2 16 rfl rfl)
theorem dX0_findRest_65 : decode cX0_findRest 65 = .ok (.if_icmp .ge 55, 3) := dk_162 0 55 (dk_at dksX0_findRest_2 19 rfl rfl)
theorem dX0_findRest_68 : decode cX0_findRest 68 = .ok (.aload_n 0, 1) := dk_42 (dk_at dksX0_findRest_2 22 rfl rfl)
theorem dX0_findRest_69 : decode cX0_findRest 69 = .ok (.iload 4, 2) := dk_21 4 (dk_at dksX0_findRest_3 0 rfl rfl)
theorem dX0_findRest_71 : decode cX0_findRest 71 = .ok (.invokevirtual 143, 3) := dk_182 0 143 (dk_at dksX0_findRest_3 2 rfl rfl)
theorem dX0_findRest_74 : decode cX0_findRest 74 = .ok (.ifCond .eq 46, 3) := dk_153 0 46 (dk_at dksX0_findRest_3 5 rfl rfl)
theorem dX0_findRest_77 : decode cX0_findRest 77 = .ok (.iload 5, 2) := dk_21 5 (dk_at dksX0_findRest_3 8 rfl rfl)
theorem dX0_findRest_79 : decode cX0_findRest 79 = .ok (.aload_n 0, 1) := dk_42 (dk_at dksX0_findRest_3 10 rfl rfl)
theorem dX0_findRest_80 : decode cX0_findRest 80 = .ok (.iload 4, 2) := dk_21 4 (dk_at dksX0_findRest_3 11 rfl rfl)
theorem dX0_findRest_82 : decode cX0_findRest 82 = .ok (.iload 6, 2) := dk_21 6 (dk_at dksX0_findRest_3 13 rfl rfl)
theorem dX0_findRest_84 : decode cX0_findRest 84 = .ok (.invokestatic 132, 3) := dk_184 0 132 (dk_at dksX0_findRest_3 15 rfl rfl)
theorem dX0_findRest_87 : decode cX0_findRest 87 = .ok (.iload_n 3, 1) := dk_29 (dk_at dksX0_findRest_3 18 rfl rfl)
theorem dX0_findRest_88 : decode cX0_findRest 88 = .ok (.invokevirtual 115, 3) := dk_182 0 115 (dk_at dksX0_findRest_3 19 rfl rfl)
theorem dX0_findRest_91 : decode cX0_findRest 91 = .ok (.aload_n 0, 1) := dk_42 (dk_at dksX0_findRest_3 22 rfl rfl)
theorem dX0_findRest_92 : decode cX0_findRest 92 = .ok (.getfield 70, 3) := dk_180 0 70 (dk_at dksX0_findRest_4 0 rfl rfl)
theorem dX0_findRest_95 : decode cX0_findRest 95 = .ok (.iload_n 2, 1) := dk_28 (dk_at dksX0_findRest_4 3 rfl rfl)
theorem dX0_findRest_96 : decode cX0_findRest 96 = .ok (.iconst 1, 1) := dk_4 (dk_at dksX0_findRest_4 4 rfl rfl)
theorem dX0_findRest_97 : decode cX0_findRest 97 = .ok (.iadd, 1) := dk_96 (dk_at dksX0_findRest_4 5 rfl rfl)
theorem dX0_findRest_98 : decode cX0_findRest 98 = .ok (.aaload, 1) := dk_50 (dk_at dksX0_findRest_4 6 rfl rfl)
theorem dX0_findRest_99 : decode cX0_findRest 99 = .ok (.iload 4, 2) := dk_21 4 (dk_at dksX0_findRest_4 7 rfl rfl)
theorem dX0_findRest_101 : decode cX0_findRest 101 = .ok (.iload 6, 2) := dk_21 6 (dk_at dksX0_findRest_4 9 rfl rfl)
theorem dX0_findRest_103 : decode cX0_findRest 103 = .ok (.iload_n 3, 1) := dk_29 (dk_at dksX0_findRest_4 11 rfl rfl)
theorem dX0_findRest_104 : decode cX0_findRest 104 = .ok (.invokestatic 149, 3) := dk_184 0 149 (dk_at dksX0_findRest_4 12 rfl rfl)
theorem dX0_findRest_107 : decode cX0_findRest 107 = .ok (.iaload, 1) := dk_46 (dk_at dksX0_findRest_4 15 rfl rfl)
theorem dX0_findRest_108 : decode cX0_findRest 108 = .ok (.iadd, 1) := dk_96 (dk_at dksX0_findRest_4 16 rfl rfl)
theorem dX0_findRest_109 : decode cX0_findRest 109 = .ok (.invokestatic 109, 3) := dk_184 0 109 (dk_at dksX0_findRest_4 17 rfl rfl)
theorem dX0_findRest_112 : decode cX0_findRest 112 = .ok (.istore 5, 2) := dk_54 5 (dk_at dksX0_findRest_4 20 rfl rfl)
theorem dX0_findRest_114 : decode cX0_findRest 114 = .ok (.iinc 6 1, 3) := dk_132 6 1 (dk_at dksX0_findRest_5 0 rfl rfl)
theorem dX0_findRest_117 : decode cX0_findRest 117 = .ok (.goto (-58), 3) := dk_167 255 198 (dk_at dksX0_findRest_5 3 rfl rfl)
theorem dX0_findRest_120 : decode cX0_findRest 120 = .ok (.aload_n 0, 1) := dk_42 (dk_at dksX0_findRest_5 6 rfl rfl)
theorem dX0_findRest_121 : decode cX0_findRest 121 = .ok (.getfield 70, 3) := dk_180 0 70 (dk_at dksX0_findRest_5 7 rfl rfl)
theorem dX0_findRest_124 : decode cX0_findRest 124 = .ok (.iload_n 2, 1) := dk_28 (dk_at dksX0_findRest_5 10 rfl rfl)
theorem dX0_findRest_125 : decode cX0_findRest 125 = .ok (.aaload, 1) := dk_50 (dk_at dksX0_findRest_5 11 rfl rfl)
theorem dX0_findRest_126 : decode cX0_findRest 126 = .ok (.iload 4, 2) := dk_21 4 (dk_at dksX0_findRest_5 12 rfl rfl)
theorem dX0_findRest_128 : decode cX0_findRest 128 = .ok (.iload 5, 2) := dk_21 5 (dk_at dksX0_findRest_5 14 rfl rfl)
theorem dX0_findRest_130 : decode cX0_findRest 130 = .ok (.iastore, 1) := dk_79 (dk_at dksX0_findRest_5 16 rfl rfl)
theorem dX0_findRest_131 : decode cX0_findRest 131 = .ok (.iinc 4 1, 3) := dk_132 4 1 (dk_at dksX0_findRest_5 17 rfl rfl)
theorem dX0_findRest_134 : decode cX0_findRest 134 = .ok (.goto (-91), 3) := dk_167 255 165 (dk_at dksX0_findRest_5 20 rfl rfl)
theorem dX0_findRest_137 : decode cX0_findRest 137 = .ok (.iinc 2 (-1), 3) := dk_132 2 255 (dk_at dksX0_findRest_6 0 rfl rfl)
theorem dX0_findRest_140 : decode cX0_findRest 140 = .ok (.goto (-111), 3) := dk_167 255 145 (dk_at dksX0_findRest_6 3 rfl rfl)
theorem dX0_findRest_143 : decode cX0_findRest 143 = .ok (.return_, 1) := dk_177 (dk_at dksX0_findRest_6 6 rfl rfl)
abbrev cX0_ratio : ByteArray := prog_1_method_39_code
def yX0_ratio : MethodName := ⟨RX0, "ratio", "()I"⟩
def dkwX0_ratio_1 : List UInt8 := [16, 247, 167, 0, 13, 17, 3, 232, 42, 182, 0, 212, 104, 27, 108, 172]
abbrev dktX0_ratio_1 : List UInt8 := dkwX0_ratio_1 ++ []
def dkwX0_ratio_0 : List UInt8 := [42, 180, 0, 118, 154, 0, 6, 16, 254, 172, 42, 42, 180, 0, 176, 182, 0, 215, 60, 27, 154, 0, 8]
abbrev dktX0_ratio_0 : List UInt8 := dkwX0_ratio_0 ++ dktX0_ratio_1
theorem dksX0_ratio_0 : cX0_ratio.data.toList.drop 0 = dktX0_ratio_0 := by decide +kernel
theorem dksX0_ratio_1 : cX0_ratio.data.toList.drop 23 = dktX0_ratio_1 := dk_seg dksX0_ratio_0 23 rfl rfl
theorem dX0_ratio_0 : decode cX0_ratio 0 = .ok (.aload_n 0, 1) := dk_42 (dk_at dksX0_ratio_0 0 rfl rfl)
theorem dX0_ratio_1 : decode cX0_ratio 1 = .ok (.getfield 118, 3) := dk_180 0 118 (dk_at dksX0_ratio_0 1 rfl rfl)
theorem dX0_ratio_4 : decode cX0_ratio 4 = .ok (.ifCond .ne 6, 3) := dk_154 0 6 (dk_at dksX0_ratio_0 4 rfl rfl)
theorem dX0_ratio_7 : decode cX0_ratio 7 = .ok (.bipush (-2), 2) := dk_16 254 (dk_at dksX0_ratio_0 7 rfl rfl)
theorem dX0_ratio_9 : decode cX0_ratio 9 = .ok (.ireturn, 1) := dk_172 (dk_at dksX0_ratio_0 9 rfl rfl)
theorem dX0_ratio_10 : decode cX0_ratio 10 = .ok (.aload_n 0, 1) := dk_42 (dk_at dksX0_ratio_0 10 rfl rfl)
theorem dX0_ratio_11 : decode cX0_ratio 11 = .ok (.aload_n 0, 1) := dk_42 (dk_at dksX0_ratio_0 11 rfl rfl)
theorem dX0_ratio_12 : decode cX0_ratio 12 = .ok (.getfield 176, 3) := dk_180 0 176 (dk_at dksX0_ratio_0 12 rfl rfl)
theorem dX0_ratio_15 : decode cX0_ratio 15 = .ok (.invokevirtual 215, 3) := dk_182 0 215 (dk_at dksX0_ratio_0 15 rfl rfl)
theorem dX0_ratio_18 : decode cX0_ratio 18 = .ok (.istore_n 1, 1) := dk_60 (dk_at dksX0_ratio_0 18 rfl rfl)
theorem dX0_ratio_19 : decode cX0_ratio 19 = .ok (.iload_n 1, 1) := dk_27 (dk_at dksX0_ratio_0 19 rfl rfl)
theorem dX0_ratio_20 : decode cX0_ratio 20 = .ok (.ifCond .ne 8, 3) := dk_154 0 8 (dk_at dksX0_ratio_0 20 rfl rfl)
theorem dX0_ratio_23 : decode cX0_ratio 23 = .ok (.bipush (-9), 2) := dk_16 247 (dk_at dksX0_ratio_1 0 rfl rfl)
theorem dX0_ratio_25 : decode cX0_ratio 25 = .ok (.goto 13, 3) := dk_167 0 13 (dk_at dksX0_ratio_1 2 rfl rfl)
theorem dX0_ratio_28 : decode cX0_ratio 28 = .ok (.sipush 1000, 3) := dk_17 3 232 (dk_at dksX0_ratio_1 5 rfl rfl)
theorem dX0_ratio_31 : decode cX0_ratio 31 = .ok (.aload_n 0, 1) := dk_42 (dk_at dksX0_ratio_1 8 rfl rfl)
theorem dX0_ratio_32 : decode cX0_ratio 32 = .ok (.invokevirtual 212, 3) := dk_182 0 212 (dk_at dksX0_ratio_1 9 rfl rfl)
theorem dX0_ratio_35 : decode cX0_ratio 35 = .ok (.imul, 1) := dk_104 (dk_at dksX0_ratio_1 12 rfl rfl)
theorem dX0_ratio_36 : decode cX0_ratio 36 = .ok (.iload_n 1, 1) := dk_27 (dk_at dksX0_ratio_1 13 rfl rfl)
theorem dX0_ratio_37 : decode cX0_ratio 37 = .ok (.idiv, 1) := dk_108 (dk_at dksX0_ratio_1 14 rfl rfl)
theorem dX0_ratio_38 : decode cX0_ratio 38 = .ok (.ireturn, 1) := dk_172 (dk_at dksX0_ratio_1 15 rfl rfl)
abbrev cX0_worst : ByteArray := prog_1_method_41_code
def yX0_worst : MethodName := ⟨RX0, "worst", "(II)I"⟩
def dkwX0_worst_11 : List UInt8 := [21, 9, 172]
abbrev dktX0_worst_11 : List UInt8 := dkwX0_worst_11 ++ []
def dkwX0_worst_10 : List UInt8 := [21, 5, 181, 0, 173, 28, 154, 0, 8, 21, 7, 167, 0, 15, 28, 4, 160, 0, 8, 21, 8, 167, 0, 5]
abbrev dktX0_worst_10 : List UInt8 := dkwX0_worst_10 ++ dktX0_worst_11
def dkwX0_worst_9 : List UInt8 := [132, 10, 1, 167, 255, 109, 42, 4, 182, 0, 221, 42, 29, 181, 0, 176, 42, 21, 4, 181, 0, 170, 42]
abbrev dktX0_worst_9 : List UInt8 := dkwX0_worst_9 ++ dktX0_worst_10
def dkwX0_worst_8 : List UInt8 := [21, 6, 164, 0, 22, 21, 12, 21, 13, 100, 54, 6, 21, 10, 54, 7, 21, 12, 54, 8, 21, 13, 54, 9]
abbrev dktX0_worst_8 : List UInt8 := dkwX0_worst_8 ++ dktX0_worst_9
def dkwX0_worst_7 : List UInt8 := [132, 12, 255, 167, 255, 232, 42, 182, 0, 212, 54, 12, 42, 27, 182, 0, 215, 54, 13, 21, 12, 21, 13, 100]
abbrev dktX0_worst_7 : List UInt8 := dkwX0_worst_7 ++ dktX0_worst_8
def dkwX0_worst_6 : List UInt8 := [100, 54, 12, 21, 12, 155, 0, 25, 42, 21, 10, 6, 21, 12, 104, 122, 16, 7, 126, 182, 0, 197, 54, 13]
abbrev dktX0_worst_6 : List UInt8 := dkwX0_worst_6 ++ dktX0_worst_7
def dkwX0_worst_5 : List UInt8 := [3, 54, 11, 132, 12, 1, 167, 255, 218, 21, 11, 153, 0, 85, 42, 42, 180, 0, 146, 182, 0, 166, 27, 4]
abbrev dktX0_worst_5 : List UInt8 := dkwX0_worst_5 ++ dktX0_worst_6
def dkwX0_worst_4 : List UInt8 := [153, 0, 24, 21, 10, 6, 21, 12, 104, 122, 16, 7, 126, 42, 180, 0, 97, 162, 0, 7, 4, 167, 0, 4]
abbrev dktX0_worst_4 : List UInt8 := dkwX0_worst_4 ++ dktX0_worst_5
def dkwX0_worst_3 : List UInt8 := [21, 10, 4, 6, 27, 104, 120, 162, 0, 143, 4, 54, 11, 3, 54, 12, 21, 12, 27, 162, 0, 38, 21, 11]
abbrev dktX0_worst_3 : List UInt8 := dkwX0_worst_3 ++ dktX0_worst_4
def dkwX0_worst_2 : List UInt8 := [54, 5, 42, 3, 182, 0, 221, 18, 225, 54, 6, 3, 54, 7, 3, 54, 8, 3, 54, 9, 3, 54, 10]
abbrev dktX0_worst_2 : List UInt8 := dkwX0_worst_2 ++ dktX0_worst_3
def dkwX0_worst_1 : List UInt8 := [184, 0, 101, 154, 0, 5, 2, 172, 42, 180, 0, 176, 62, 42, 180, 0, 170, 54, 4, 42, 180, 0, 173]
abbrev dktX0_worst_1 : List UInt8 := dkwX0_worst_1 ++ dktX0_worst_2
def dkwX0_worst_0 : List UInt8 := [42, 180, 0, 118, 154, 0, 6, 16, 254, 172, 27, 4, 6, 184, 0, 101, 153, 0, 12, 28, 3, 5]
abbrev dktX0_worst_0 : List UInt8 := dkwX0_worst_0 ++ dktX0_worst_1
theorem dksX0_worst_0 : cX0_worst.data.toList.drop 0 = dktX0_worst_0 := by decide +kernel
theorem dksX0_worst_1 : cX0_worst.data.toList.drop 22 = dktX0_worst_1 := dk_seg dksX0_worst_0 22 rfl rfl
theorem dksX0_worst_2 : cX0_worst.data.toList.drop 45 = dktX0_worst_2 := dk_seg dksX0_worst_1 23 rfl rfl
theorem dksX0_worst_3 : cX0_worst.data.toList.drop 68 = dktX0_worst_3 := dk_seg dksX0_worst_2 23 rfl rfl
theorem dksX0_worst_4 : cX0_worst.data.toList.drop 92 = dktX0_worst_4 := dk_seg dksX0_worst_3 24 rfl rfl
theorem dksX0_worst_5 : cX0_worst.data.toList.drop 116 = dktX0_worst_5 := dk_seg dksX0_worst_4 24 rfl rfl
theorem dksX0_worst_6 : cX0_worst.data.toList.drop 140 = dktX0_worst_6 := dk_seg dksX0_worst_5 24 rfl rfl
theorem dksX0_worst_7 : cX0_worst.data.toList.drop 164 = dktX0_worst_7 := dk_seg dksX0_worst_6 24 rfl rfl
theorem dksX0_worst_8 : cX0_worst.data.toList.drop 188 = dktX0_worst_8 := dk_seg dksX0_worst_7 24 rfl rfl
theorem dksX0_worst_9 : cX0_worst.data.toList.drop 212 = dktX0_worst_9 := dk_seg dksX0_worst_8 24 rfl rfl
theorem dksX0_worst_10 : cX0_worst.data.toList.drop 235 = dktX0_worst_10 := dk_seg dksX0_worst_9 23 rfl rfl
theorem dksX0_worst_11 : cX0_worst.data.toList.drop 259 = dktX0_worst_11 := dk_seg dksX0_worst_10 24 rfl rfl
theorem dX0_worst_0 : decode cX0_worst 0 = .ok (.aload_n 0, 1) := dk_42 (dk_at dksX0_worst_0 0 rfl rfl)
theorem dX0_worst_1 : decode cX0_worst 1 = .ok (.getfield 118, 3) := dk_180 0 118 (dk_at dksX0_worst_0 1 rfl rfl)
theorem dX0_worst_4 : decode cX0_worst 4 = .ok (.ifCond .ne 6, 3) := dk_154 0 6 (dk_at dksX0_worst_0 4 rfl rfl)
theorem dX0_worst_7 : decode cX0_worst 7 = .ok (.bipush (-2), 2) := dk_16 254 (dk_at dksX0_worst_0 7 rfl rfl)
theorem dX0_worst_9 : decode cX0_worst 9 = .ok (.ireturn, 1) := dk_172 (dk_at dksX0_worst_0 9 rfl rfl)
theorem dX0_worst_10 : decode cX0_worst 10 = .ok (.iload_n 1, 1) := dk_27 (dk_at dksX0_worst_0 10 rfl rfl)
theorem dX0_worst_11 : decode cX0_worst 11 = .ok (.iconst 1, 1) := dk_4 (dk_at dksX0_worst_0 11 rfl rfl)
theorem dX0_worst_12 : decode cX0_worst 12 = .ok (.iconst 3, 1) := dk_6 (dk_at dksX0_worst_0 12 rfl rfl)
theorem dX0_worst_13 : decode cX0_worst 13 = .ok (.invokestatic 101, 3) := dk_184 0 101 (dk_at dksX0_worst_0 13 rfl rfl)
theorem dX0_worst_16 : decode cX0_worst 16 = .ok (.ifCond .eq 12, 3) := dk_153 0 12 (dk_at dksX0_worst_0 16 rfl rfl)
theorem dX0_worst_19 : decode cX0_worst 19 = .ok (.iload_n 2, 1) := dk_28 (dk_at dksX0_worst_0 19 rfl rfl)
theorem dX0_worst_20 : decode cX0_worst 20 = .ok (.iconst 0, 1) := dk_3 (dk_at dksX0_worst_0 20 rfl rfl)
theorem dX0_worst_21 : decode cX0_worst 21 = .ok (.iconst 2, 1) := dk_5 (dk_at dksX0_worst_0 21 rfl rfl)
theorem dX0_worst_22 : decode cX0_worst 22 = .ok (.invokestatic 101, 3) := dk_184 0 101 (dk_at dksX0_worst_1 0 rfl rfl)
theorem dX0_worst_25 : decode cX0_worst 25 = .ok (.ifCond .ne 5, 3) := dk_154 0 5 (dk_at dksX0_worst_1 3 rfl rfl)
theorem dX0_worst_28 : decode cX0_worst 28 = .ok (.iconst (-1), 1) := dk_2 (dk_at dksX0_worst_1 6 rfl rfl)
theorem dX0_worst_29 : decode cX0_worst 29 = .ok (.ireturn, 1) := dk_172 (dk_at dksX0_worst_1 7 rfl rfl)
theorem dX0_worst_30 : decode cX0_worst 30 = .ok (.aload_n 0, 1) := dk_42 (dk_at dksX0_worst_1 8 rfl rfl)
theorem dX0_worst_31 : decode cX0_worst 31 = .ok (.getfield 176, 3) := dk_180 0 176 (dk_at dksX0_worst_1 9 rfl rfl)
theorem dX0_worst_34 : decode cX0_worst 34 = .ok (.istore_n 3, 1) := dk_62 (dk_at dksX0_worst_1 12 rfl rfl)
theorem dX0_worst_35 : decode cX0_worst 35 = .ok (.aload_n 0, 1) := dk_42 (dk_at dksX0_worst_1 13 rfl rfl)
theorem dX0_worst_36 : decode cX0_worst 36 = .ok (.getfield 170, 3) := dk_180 0 170 (dk_at dksX0_worst_1 14 rfl rfl)
theorem dX0_worst_39 : decode cX0_worst 39 = .ok (.istore 4, 2) := dk_54 4 (dk_at dksX0_worst_1 17 rfl rfl)
theorem dX0_worst_41 : decode cX0_worst 41 = .ok (.aload_n 0, 1) := dk_42 (dk_at dksX0_worst_1 19 rfl rfl)
theorem dX0_worst_42 : decode cX0_worst 42 = .ok (.getfield 173, 3) := dk_180 0 173 (dk_at dksX0_worst_1 20 rfl rfl)
theorem dX0_worst_45 : decode cX0_worst 45 = .ok (.istore 5, 2) := dk_54 5 (dk_at dksX0_worst_2 0 rfl rfl)
theorem dX0_worst_47 : decode cX0_worst 47 = .ok (.aload_n 0, 1) := dk_42 (dk_at dksX0_worst_2 2 rfl rfl)
theorem dX0_worst_48 : decode cX0_worst 48 = .ok (.iconst 0, 1) := dk_3 (dk_at dksX0_worst_2 3 rfl rfl)
theorem dX0_worst_49 : decode cX0_worst 49 = .ok (.invokevirtual 221, 3) := dk_182 0 221 (dk_at dksX0_worst_2 4 rfl rfl)
theorem dX0_worst_52 : decode cX0_worst 52 = .ok (.ldc 225, 2) := dk_18 225 (dk_at dksX0_worst_2 7 rfl rfl)
theorem dX0_worst_54 : decode cX0_worst 54 = .ok (.istore 6, 2) := dk_54 6 (dk_at dksX0_worst_2 9 rfl rfl)
theorem dX0_worst_56 : decode cX0_worst 56 = .ok (.iconst 0, 1) := dk_3 (dk_at dksX0_worst_2 11 rfl rfl)
theorem dX0_worst_57 : decode cX0_worst 57 = .ok (.istore 7, 2) := dk_54 7 (dk_at dksX0_worst_2 12 rfl rfl)
theorem dX0_worst_59 : decode cX0_worst 59 = .ok (.iconst 0, 1) := dk_3 (dk_at dksX0_worst_2 14 rfl rfl)
theorem dX0_worst_60 : decode cX0_worst 60 = .ok (.istore 8, 2) := dk_54 8 (dk_at dksX0_worst_2 15 rfl rfl)
theorem dX0_worst_62 : decode cX0_worst 62 = .ok (.iconst 0, 1) := dk_3 (dk_at dksX0_worst_2 17 rfl rfl)
theorem dX0_worst_63 : decode cX0_worst 63 = .ok (.istore 9, 2) := dk_54 9 (dk_at dksX0_worst_2 18 rfl rfl)
theorem dX0_worst_65 : decode cX0_worst 65 = .ok (.iconst 0, 1) := dk_3 (dk_at dksX0_worst_2 20 rfl rfl)
theorem dX0_worst_66 : decode cX0_worst 66 = .ok (.istore 10, 2) := dk_54 10 (dk_at dksX0_worst_2 21 rfl rfl)
theorem dX0_worst_68 : decode cX0_worst 68 = .ok (.iload 10, 2) := dk_21 10 (dk_at dksX0_worst_3 0 rfl rfl)
theorem dX0_worst_70 : decode cX0_worst 70 = .ok (.iconst 1, 1) := dk_4 (dk_at dksX0_worst_3 2 rfl rfl)
theorem dX0_worst_71 : decode cX0_worst 71 = .ok (.iconst 3, 1) := dk_6 (dk_at dksX0_worst_3 3 rfl rfl)
theorem dX0_worst_72 : decode cX0_worst 72 = .ok (.iload_n 1, 1) := dk_27 (dk_at dksX0_worst_3 4 rfl rfl)
theorem dX0_worst_73 : decode cX0_worst 73 = .ok (.imul, 1) := dk_104 (dk_at dksX0_worst_3 5 rfl rfl)
theorem dX0_worst_74 : decode cX0_worst 74 = .ok (.ishl, 1) := dk_120 (dk_at dksX0_worst_3 6 rfl rfl)
theorem dX0_worst_75 : decode cX0_worst 75 = .ok (.if_icmp .ge 143, 3) := dk_162 0 143 (dk_at dksX0_worst_3 7 rfl rfl)
theorem dX0_worst_78 : decode cX0_worst 78 = .ok (.iconst 1, 1) := dk_4 (dk_at dksX0_worst_3 10 rfl rfl)
theorem dX0_worst_79 : decode cX0_worst 79 = .ok (.istore 11, 2) := dk_54 11 (dk_at dksX0_worst_3 11 rfl rfl)
theorem dX0_worst_81 : decode cX0_worst 81 = .ok (.iconst 0, 1) := dk_3 (dk_at dksX0_worst_3 13 rfl rfl)
theorem dX0_worst_82 : decode cX0_worst 82 = .ok (.istore 12, 2) := dk_54 12 (dk_at dksX0_worst_3 14 rfl rfl)
theorem dX0_worst_84 : decode cX0_worst 84 = .ok (.iload 12, 2) := dk_21 12 (dk_at dksX0_worst_3 16 rfl rfl)
theorem dX0_worst_86 : decode cX0_worst 86 = .ok (.iload_n 1, 1) := dk_27 (dk_at dksX0_worst_3 18 rfl rfl)
theorem dX0_worst_87 : decode cX0_worst 87 = .ok (.if_icmp .ge 38, 3) := dk_162 0 38 (dk_at dksX0_worst_3 19 rfl rfl)
theorem dX0_worst_90 : decode cX0_worst 90 = .ok (.iload 11, 2) := dk_21 11 (dk_at dksX0_worst_3 22 rfl rfl)
theorem dX0_worst_92 : decode cX0_worst 92 = .ok (.ifCond .eq 24, 3) := dk_153 0 24 (dk_at dksX0_worst_4 0 rfl rfl)
theorem dX0_worst_95 : decode cX0_worst 95 = .ok (.iload 10, 2) := dk_21 10 (dk_at dksX0_worst_4 3 rfl rfl)
theorem dX0_worst_97 : decode cX0_worst 97 = .ok (.iconst 3, 1) := dk_6 (dk_at dksX0_worst_4 5 rfl rfl)
theorem dX0_worst_98 : decode cX0_worst 98 = .ok (.iload 12, 2) := dk_21 12 (dk_at dksX0_worst_4 6 rfl rfl)
theorem dX0_worst_100 : decode cX0_worst 100 = .ok (.imul, 1) := dk_104 (dk_at dksX0_worst_4 8 rfl rfl)
theorem dX0_worst_101 : decode cX0_worst 101 = .ok (.ishr, 1) := dk_122 (dk_at dksX0_worst_4 9 rfl rfl)
theorem dX0_worst_102 : decode cX0_worst 102 = .ok (.bipush 7, 2) := dk_16 7 (dk_at dksX0_worst_4 10 rfl rfl)
theorem dX0_worst_104 : decode cX0_worst 104 = .ok (.iand, 1) := dk_126 (dk_at dksX0_worst_4 12 rfl rfl)
theorem dX0_worst_105 : decode cX0_worst 105 = .ok (.aload_n 0, 1) := dk_42 (dk_at dksX0_worst_4 13 rfl rfl)
theorem dX0_worst_106 : decode cX0_worst 106 = .ok (.getfield 97, 3) := dk_180 0 97 (dk_at dksX0_worst_4 14 rfl rfl)
theorem dX0_worst_109 : decode cX0_worst 109 = .ok (.if_icmp .ge 7, 3) := dk_162 0 7 (dk_at dksX0_worst_4 17 rfl rfl)
theorem dX0_worst_112 : decode cX0_worst 112 = .ok (.iconst 1, 1) := dk_4 (dk_at dksX0_worst_4 20 rfl rfl)
theorem dX0_worst_113 : decode cX0_worst 113 = .ok (.goto 4, 3) := dk_167 0 4 (dk_at dksX0_worst_4 21 rfl rfl)
theorem dX0_worst_116 : decode cX0_worst 116 = .ok (.iconst 0, 1) := dk_3 (dk_at dksX0_worst_5 0 rfl rfl)
theorem dX0_worst_117 : decode cX0_worst 117 = .ok (.istore 11, 2) := dk_54 11 (dk_at dksX0_worst_5 1 rfl rfl)
theorem dX0_worst_119 : decode cX0_worst 119 = .ok (.iinc 12 1, 3) := dk_132 12 1 (dk_at dksX0_worst_5 3 rfl rfl)
theorem dX0_worst_122 : decode cX0_worst 122 = .ok (.goto (-38), 3) := dk_167 255 218 (dk_at dksX0_worst_5 6 rfl rfl)
theorem dX0_worst_125 : decode cX0_worst 125 = .ok (.iload 11, 2) := dk_21 11 (dk_at dksX0_worst_5 9 rfl rfl)
theorem dX0_worst_127 : decode cX0_worst 127 = .ok (.ifCond .eq 85, 3) := dk_153 0 85 (dk_at dksX0_worst_5 11 rfl rfl)
theorem dX0_worst_130 : decode cX0_worst 130 = .ok (.aload_n 0, 1) := dk_42 (dk_at dksX0_worst_5 14 rfl rfl)
theorem dX0_worst_131 : decode cX0_worst 131 = .ok (.aload_n 0, 1) := dk_42 (dk_at dksX0_worst_5 15 rfl rfl)
theorem dX0_worst_132 : decode cX0_worst 132 = .ok (.getfield 146, 3) := dk_180 0 146 (dk_at dksX0_worst_5 16 rfl rfl)
theorem dX0_worst_135 : decode cX0_worst 135 = .ok (.invokevirtual 166, 3) := dk_182 0 166 (dk_at dksX0_worst_5 19 rfl rfl)
theorem dX0_worst_138 : decode cX0_worst 138 = .ok (.iload_n 1, 1) := dk_27 (dk_at dksX0_worst_5 22 rfl rfl)
theorem dX0_worst_139 : decode cX0_worst 139 = .ok (.iconst 1, 1) := dk_4 (dk_at dksX0_worst_5 23 rfl rfl)
theorem dX0_worst_140 : decode cX0_worst 140 = .ok (.isub, 1) := dk_100 (dk_at dksX0_worst_6 0 rfl rfl)
theorem dX0_worst_141 : decode cX0_worst 141 = .ok (.istore 12, 2) := dk_54 12 (dk_at dksX0_worst_6 1 rfl rfl)
theorem dX0_worst_143 : decode cX0_worst 143 = .ok (.iload 12, 2) := dk_21 12 (dk_at dksX0_worst_6 3 rfl rfl)
theorem dX0_worst_145 : decode cX0_worst 145 = .ok (.ifCond .lt 25, 3) := dk_155 0 25 (dk_at dksX0_worst_6 5 rfl rfl)
theorem dX0_worst_148 : decode cX0_worst 148 = .ok (.aload_n 0, 1) := dk_42 (dk_at dksX0_worst_6 8 rfl rfl)
theorem dX0_worst_149 : decode cX0_worst 149 = .ok (.iload 10, 2) := dk_21 10 (dk_at dksX0_worst_6 9 rfl rfl)
theorem dX0_worst_151 : decode cX0_worst 151 = .ok (.iconst 3, 1) := dk_6 (dk_at dksX0_worst_6 11 rfl rfl)
theorem dX0_worst_152 : decode cX0_worst 152 = .ok (.iload 12, 2) := dk_21 12 (dk_at dksX0_worst_6 12 rfl rfl)
theorem dX0_worst_154 : decode cX0_worst 154 = .ok (.imul, 1) := dk_104 (dk_at dksX0_worst_6 14 rfl rfl)
theorem dX0_worst_155 : decode cX0_worst 155 = .ok (.ishr, 1) := dk_122 (dk_at dksX0_worst_6 15 rfl rfl)
theorem dX0_worst_156 : decode cX0_worst 156 = .ok (.bipush 7, 2) := dk_16 7 (dk_at dksX0_worst_6 16 rfl rfl)
theorem dX0_worst_158 : decode cX0_worst 158 = .ok (.iand, 1) := dk_126 (dk_at dksX0_worst_6 18 rfl rfl)
theorem dX0_worst_159 : decode cX0_worst 159 = .ok (.invokevirtual 197, 3) := dk_182 0 197 (dk_at dksX0_worst_6 19 rfl rfl)
theorem dX0_worst_162 : decode cX0_worst 162 = .ok (.istore 13, 2) := dk_54 13 (dk_at dksX0_worst_6 22 rfl rfl)
theorem dX0_worst_164 : decode cX0_worst 164 = .ok (.iinc 12 (-1), 3) := dk_132 12 255 (dk_at dksX0_worst_7 0 rfl rfl)
theorem dX0_worst_167 : decode cX0_worst 167 = .ok (.goto (-24), 3) := dk_167 255 232 (dk_at dksX0_worst_7 3 rfl rfl)
theorem dX0_worst_170 : decode cX0_worst 170 = .ok (.aload_n 0, 1) := dk_42 (dk_at dksX0_worst_7 6 rfl rfl)
theorem dX0_worst_171 : decode cX0_worst 171 = .ok (.invokevirtual 212, 3) := dk_182 0 212 (dk_at dksX0_worst_7 7 rfl rfl)
theorem dX0_worst_174 : decode cX0_worst 174 = .ok (.istore 12, 2) := dk_54 12 (dk_at dksX0_worst_7 10 rfl rfl)
theorem dX0_worst_176 : decode cX0_worst 176 = .ok (.aload_n 0, 1) := dk_42 (dk_at dksX0_worst_7 12 rfl rfl)
theorem dX0_worst_177 : decode cX0_worst 177 = .ok (.iload_n 1, 1) := dk_27 (dk_at dksX0_worst_7 13 rfl rfl)
theorem dX0_worst_178 : decode cX0_worst 178 = .ok (.invokevirtual 215, 3) := dk_182 0 215 (dk_at dksX0_worst_7 14 rfl rfl)
theorem dX0_worst_181 : decode cX0_worst 181 = .ok (.istore 13, 2) := dk_54 13 (dk_at dksX0_worst_7 17 rfl rfl)
theorem dX0_worst_183 : decode cX0_worst 183 = .ok (.iload 12, 2) := dk_21 12 (dk_at dksX0_worst_7 19 rfl rfl)
theorem dX0_worst_185 : decode cX0_worst 185 = .ok (.iload 13, 2) := dk_21 13 (dk_at dksX0_worst_7 21 rfl rfl)
theorem dX0_worst_187 : decode cX0_worst 187 = .ok (.isub, 1) := dk_100 (dk_at dksX0_worst_7 23 rfl rfl)
theorem dX0_worst_188 : decode cX0_worst 188 = .ok (.iload 6, 2) := dk_21 6 (dk_at dksX0_worst_8 0 rfl rfl)
theorem dX0_worst_190 : decode cX0_worst 190 = .ok (.if_icmp .le 22, 3) := dk_164 0 22 (dk_at dksX0_worst_8 2 rfl rfl)
theorem dX0_worst_193 : decode cX0_worst 193 = .ok (.iload 12, 2) := dk_21 12 (dk_at dksX0_worst_8 5 rfl rfl)
theorem dX0_worst_195 : decode cX0_worst 195 = .ok (.iload 13, 2) := dk_21 13 (dk_at dksX0_worst_8 7 rfl rfl)
theorem dX0_worst_197 : decode cX0_worst 197 = .ok (.isub, 1) := dk_100 (dk_at dksX0_worst_8 9 rfl rfl)
theorem dX0_worst_198 : decode cX0_worst 198 = .ok (.istore 6, 2) := dk_54 6 (dk_at dksX0_worst_8 10 rfl rfl)
theorem dX0_worst_200 : decode cX0_worst 200 = .ok (.iload 10, 2) := dk_21 10 (dk_at dksX0_worst_8 12 rfl rfl)
theorem dX0_worst_202 : decode cX0_worst 202 = .ok (.istore 7, 2) := dk_54 7 (dk_at dksX0_worst_8 14 rfl rfl)
theorem dX0_worst_204 : decode cX0_worst 204 = .ok (.iload 12, 2) := dk_21 12 (dk_at dksX0_worst_8 16 rfl rfl)
theorem dX0_worst_206 : decode cX0_worst 206 = .ok (.istore 8, 2) := dk_54 8 (dk_at dksX0_worst_8 18 rfl rfl)
theorem dX0_worst_208 : decode cX0_worst 208 = .ok (.iload 13, 2) := dk_21 13 (dk_at dksX0_worst_8 20 rfl rfl)
theorem dX0_worst_210 : decode cX0_worst 210 = .ok (.istore 9, 2) := dk_54 9 (dk_at dksX0_worst_8 22 rfl rfl)
theorem dX0_worst_212 : decode cX0_worst 212 = .ok (.iinc 10 1, 3) := dk_132 10 1 (dk_at dksX0_worst_9 0 rfl rfl)
theorem dX0_worst_215 : decode cX0_worst 215 = .ok (.goto (-147), 3) := dk_167 255 109 (dk_at dksX0_worst_9 3 rfl rfl)
theorem dX0_worst_218 : decode cX0_worst 218 = .ok (.aload_n 0, 1) := dk_42 (dk_at dksX0_worst_9 6 rfl rfl)
theorem dX0_worst_219 : decode cX0_worst 219 = .ok (.iconst 1, 1) := dk_4 (dk_at dksX0_worst_9 7 rfl rfl)
theorem dX0_worst_220 : decode cX0_worst 220 = .ok (.invokevirtual 221, 3) := dk_182 0 221 (dk_at dksX0_worst_9 8 rfl rfl)
theorem dX0_worst_223 : decode cX0_worst 223 = .ok (.aload_n 0, 1) := dk_42 (dk_at dksX0_worst_9 11 rfl rfl)
theorem dX0_worst_224 : decode cX0_worst 224 = .ok (.iload_n 3, 1) := dk_29 (dk_at dksX0_worst_9 12 rfl rfl)
theorem dX0_worst_225 : decode cX0_worst 225 = .ok (.putfield 176, 3) := dk_181 0 176 (dk_at dksX0_worst_9 13 rfl rfl)
theorem dX0_worst_228 : decode cX0_worst 228 = .ok (.aload_n 0, 1) := dk_42 (dk_at dksX0_worst_9 16 rfl rfl)
theorem dX0_worst_229 : decode cX0_worst 229 = .ok (.iload 4, 2) := dk_21 4 (dk_at dksX0_worst_9 17 rfl rfl)
theorem dX0_worst_231 : decode cX0_worst 231 = .ok (.putfield 170, 3) := dk_181 0 170 (dk_at dksX0_worst_9 19 rfl rfl)
theorem dX0_worst_234 : decode cX0_worst 234 = .ok (.aload_n 0, 1) := dk_42 (dk_at dksX0_worst_9 22 rfl rfl)
theorem dX0_worst_235 : decode cX0_worst 235 = .ok (.iload 5, 2) := dk_21 5 (dk_at dksX0_worst_10 0 rfl rfl)
theorem dX0_worst_237 : decode cX0_worst 237 = .ok (.putfield 173, 3) := dk_181 0 173 (dk_at dksX0_worst_10 2 rfl rfl)
theorem dX0_worst_240 : decode cX0_worst 240 = .ok (.iload_n 2, 1) := dk_28 (dk_at dksX0_worst_10 5 rfl rfl)
theorem dX0_worst_241 : decode cX0_worst 241 = .ok (.ifCond .ne 8, 3) := dk_154 0 8 (dk_at dksX0_worst_10 6 rfl rfl)
theorem dX0_worst_244 : decode cX0_worst 244 = .ok (.iload 7, 2) := dk_21 7 (dk_at dksX0_worst_10 9 rfl rfl)
theorem dX0_worst_246 : decode cX0_worst 246 = .ok (.goto 15, 3) := dk_167 0 15 (dk_at dksX0_worst_10 11 rfl rfl)
theorem dX0_worst_249 : decode cX0_worst 249 = .ok (.iload_n 2, 1) := dk_28 (dk_at dksX0_worst_10 14 rfl rfl)
theorem dX0_worst_250 : decode cX0_worst 250 = .ok (.iconst 1, 1) := dk_4 (dk_at dksX0_worst_10 15 rfl rfl)
theorem dX0_worst_251 : decode cX0_worst 251 = .ok (.if_icmp .ne 8, 3) := dk_160 0 8 (dk_at dksX0_worst_10 16 rfl rfl)
theorem dX0_worst_254 : decode cX0_worst 254 = .ok (.iload 8, 2) := dk_21 8 (dk_at dksX0_worst_10 19 rfl rfl)
theorem dX0_worst_256 : decode cX0_worst 256 = .ok (.goto 5, 3) := dk_167 0 5 (dk_at dksX0_worst_10 21 rfl rfl)
theorem dX0_worst_259 : decode cX0_worst 259 = .ok (.iload 9, 2) := dk_21 9 (dk_at dksX0_worst_11 0 rfl rfl)
theorem dX0_worst_261 : decode cX0_worst 261 = .ok (.ireturn, 1) := dk_172 (dk_at dksX0_worst_11 2 rfl rfl)
abbrev cX0_keep : ByteArray := prog_1_method_40_code
def yX0_keep : MethodName := ⟨RX0, "keep", "(Z)V"⟩
def dkwX0_keep_9 : List UInt8 := [180, 0, 88, 3, 6, 184, 0, 152, 177]
abbrev dktX0_keep_9 : List UInt8 := dkwX0_keep_9 ++ []
def dkwX0_keep_8 : List UInt8 := [42, 180, 0, 88, 167, 0, 7, 42, 180, 0, 22, 3, 27, 153, 0, 10, 42, 180, 0, 22, 167, 0, 7, 42]
abbrev dktX0_keep_8 : List UInt8 := dkwX0_keep_8 ++ dktX0_keep_9
def dkwX0_keep_7 : List UInt8 := [153, 0, 10, 42, 180, 0, 37, 167, 0, 7, 42, 180, 0, 85, 3, 16, 12, 184, 0, 152, 27, 153, 0, 10]
abbrev dktX0_keep_7 : List UInt8 := dkwX0_keep_7 ++ dktX0_keep_8
def dkwX0_keep_6 : List UInt8 := [16, 12, 184, 0, 152, 27, 153, 0, 10, 42, 180, 0, 85, 167, 0, 7, 42, 180, 0, 37, 3, 27]
abbrev dktX0_keep_6 : List UInt8 := dkwX0_keep_6 ++ dktX0_keep_7
def dkwX0_keep_5 : List UInt8 := [167, 0, 7, 42, 180, 0, 34, 3, 27, 153, 0, 10, 42, 180, 0, 34, 167, 0, 7, 42, 180, 0, 82, 3]
abbrev dktX0_keep_5 : List UInt8 := dkwX0_keep_5 ++ dktX0_keep_6
def dkwX0_keep_4 : List UInt8 := [180, 0, 31, 167, 0, 7, 42, 180, 0, 79, 3, 16, 12, 184, 0, 152, 27, 153, 0, 10, 42, 180, 0, 82]
abbrev dktX0_keep_4 : List UInt8 := dkwX0_keep_4 ++ dktX0_keep_5
def dkwX0_keep_3 : List UInt8 := [184, 0, 152, 27, 153, 0, 10, 42, 180, 0, 79, 167, 0, 7, 42, 180, 0, 31, 3, 27, 153, 0, 10, 42]
abbrev dktX0_keep_3 : List UInt8 := dkwX0_keep_3 ++ dktX0_keep_4
def dkwX0_keep_2 : List UInt8 := [42, 180, 0, 28, 3, 27, 153, 0, 10, 42, 180, 0, 28, 167, 0, 7, 42, 180, 0, 76, 3, 16, 12]
abbrev dktX0_keep_2 : List UInt8 := dkwX0_keep_2 ++ dktX0_keep_3
def dkwX0_keep_1 : List UInt8 := [167, 0, 7, 42, 180, 0, 73, 3, 16, 12, 184, 0, 152, 27, 153, 0, 10, 42, 180, 0, 76, 167, 0, 7]
abbrev dktX0_keep_1 : List UInt8 := dkwX0_keep_1 ++ dktX0_keep_2
def dkwX0_keep_0 : List UInt8 := [27, 153, 0, 10, 42, 180, 0, 73, 167, 0, 7, 42, 180, 0, 25, 3, 27, 153, 0, 10, 42, 180, 0, 25]
abbrev dktX0_keep_0 : List UInt8 := dkwX0_keep_0 ++ dktX0_keep_1
theorem dksX0_keep_0 : cX0_keep.data.toList.drop 0 = dktX0_keep_0 := by decide +kernel
theorem dksX0_keep_1 : cX0_keep.data.toList.drop 24 = dktX0_keep_1 := dk_seg dksX0_keep_0 24 rfl rfl
theorem dksX0_keep_2 : cX0_keep.data.toList.drop 48 = dktX0_keep_2 := dk_seg dksX0_keep_1 24 rfl rfl
theorem dksX0_keep_3 : cX0_keep.data.toList.drop 71 = dktX0_keep_3 := dk_seg dksX0_keep_2 23 rfl rfl
theorem dksX0_keep_4 : cX0_keep.data.toList.drop 95 = dktX0_keep_4 := dk_seg dksX0_keep_3 24 rfl rfl
theorem dksX0_keep_5 : cX0_keep.data.toList.drop 119 = dktX0_keep_5 := dk_seg dksX0_keep_4 24 rfl rfl
theorem dksX0_keep_6 : cX0_keep.data.toList.drop 143 = dktX0_keep_6 := dk_seg dksX0_keep_5 24 rfl rfl
theorem dksX0_keep_7 : cX0_keep.data.toList.drop 165 = dktX0_keep_7 := dk_seg dksX0_keep_6 22 rfl rfl
theorem dksX0_keep_8 : cX0_keep.data.toList.drop 189 = dktX0_keep_8 := dk_seg dksX0_keep_7 24 rfl rfl
theorem dksX0_keep_9 : cX0_keep.data.toList.drop 213 = dktX0_keep_9 := dk_seg dksX0_keep_8 24 rfl rfl
theorem dX0_keep_0 : decode cX0_keep 0 = .ok (.iload_n 1, 1) := dk_27 (dk_at dksX0_keep_0 0 rfl rfl)
theorem dX0_keep_1 : decode cX0_keep 1 = .ok (.ifCond .eq 10, 3) := dk_153 0 10 (dk_at dksX0_keep_0 1 rfl rfl)
theorem dX0_keep_4 : decode cX0_keep 4 = .ok (.aload_n 0, 1) := dk_42 (dk_at dksX0_keep_0 4 rfl rfl)
theorem dX0_keep_5 : decode cX0_keep 5 = .ok (.getfield 73, 3) := dk_180 0 73 (dk_at dksX0_keep_0 5 rfl rfl)
theorem dX0_keep_8 : decode cX0_keep 8 = .ok (.goto 7, 3) := dk_167 0 7 (dk_at dksX0_keep_0 8 rfl rfl)
theorem dX0_keep_11 : decode cX0_keep 11 = .ok (.aload_n 0, 1) := dk_42 (dk_at dksX0_keep_0 11 rfl rfl)
theorem dX0_keep_12 : decode cX0_keep 12 = .ok (.getfield 25, 3) := dk_180 0 25 (dk_at dksX0_keep_0 12 rfl rfl)
theorem dX0_keep_15 : decode cX0_keep 15 = .ok (.iconst 0, 1) := dk_3 (dk_at dksX0_keep_0 15 rfl rfl)
theorem dX0_keep_16 : decode cX0_keep 16 = .ok (.iload_n 1, 1) := dk_27 (dk_at dksX0_keep_0 16 rfl rfl)
theorem dX0_keep_17 : decode cX0_keep 17 = .ok (.ifCond .eq 10, 3) := dk_153 0 10 (dk_at dksX0_keep_0 17 rfl rfl)
theorem dX0_keep_20 : decode cX0_keep 20 = .ok (.aload_n 0, 1) := dk_42 (dk_at dksX0_keep_0 20 rfl rfl)
theorem dX0_keep_21 : decode cX0_keep 21 = .ok (.getfield 25, 3) := dk_180 0 25 (dk_at dksX0_keep_0 21 rfl rfl)
theorem dX0_keep_24 : decode cX0_keep 24 = .ok (.goto 7, 3) := dk_167 0 7 (dk_at dksX0_keep_1 0 rfl rfl)
theorem dX0_keep_27 : decode cX0_keep 27 = .ok (.aload_n 0, 1) := dk_42 (dk_at dksX0_keep_1 3 rfl rfl)
theorem dX0_keep_28 : decode cX0_keep 28 = .ok (.getfield 73, 3) := dk_180 0 73 (dk_at dksX0_keep_1 4 rfl rfl)
theorem dX0_keep_31 : decode cX0_keep 31 = .ok (.iconst 0, 1) := dk_3 (dk_at dksX0_keep_1 7 rfl rfl)
theorem dX0_keep_32 : decode cX0_keep 32 = .ok (.bipush 12, 2) := dk_16 12 (dk_at dksX0_keep_1 8 rfl rfl)
theorem dX0_keep_34 : decode cX0_keep 34 = .ok (.invokestatic 152, 3) := dk_184 0 152 (dk_at dksX0_keep_1 10 rfl rfl)
theorem dX0_keep_37 : decode cX0_keep 37 = .ok (.iload_n 1, 1) := dk_27 (dk_at dksX0_keep_1 13 rfl rfl)
theorem dX0_keep_38 : decode cX0_keep 38 = .ok (.ifCond .eq 10, 3) := dk_153 0 10 (dk_at dksX0_keep_1 14 rfl rfl)
theorem dX0_keep_41 : decode cX0_keep 41 = .ok (.aload_n 0, 1) := dk_42 (dk_at dksX0_keep_1 17 rfl rfl)
theorem dX0_keep_42 : decode cX0_keep 42 = .ok (.getfield 76, 3) := dk_180 0 76 (dk_at dksX0_keep_1 18 rfl rfl)
theorem dX0_keep_45 : decode cX0_keep 45 = .ok (.goto 7, 3) := dk_167 0 7 (dk_at dksX0_keep_1 21 rfl rfl)
theorem dX0_keep_48 : decode cX0_keep 48 = .ok (.aload_n 0, 1) := dk_42 (dk_at dksX0_keep_2 0 rfl rfl)
theorem dX0_keep_49 : decode cX0_keep 49 = .ok (.getfield 28, 3) := dk_180 0 28 (dk_at dksX0_keep_2 1 rfl rfl)
theorem dX0_keep_52 : decode cX0_keep 52 = .ok (.iconst 0, 1) := dk_3 (dk_at dksX0_keep_2 4 rfl rfl)
theorem dX0_keep_53 : decode cX0_keep 53 = .ok (.iload_n 1, 1) := dk_27 (dk_at dksX0_keep_2 5 rfl rfl)
theorem dX0_keep_54 : decode cX0_keep 54 = .ok (.ifCond .eq 10, 3) := dk_153 0 10 (dk_at dksX0_keep_2 6 rfl rfl)
theorem dX0_keep_57 : decode cX0_keep 57 = .ok (.aload_n 0, 1) := dk_42 (dk_at dksX0_keep_2 9 rfl rfl)
theorem dX0_keep_58 : decode cX0_keep 58 = .ok (.getfield 28, 3) := dk_180 0 28 (dk_at dksX0_keep_2 10 rfl rfl)
theorem dX0_keep_61 : decode cX0_keep 61 = .ok (.goto 7, 3) := dk_167 0 7 (dk_at dksX0_keep_2 13 rfl rfl)
theorem dX0_keep_64 : decode cX0_keep 64 = .ok (.aload_n 0, 1) := dk_42 (dk_at dksX0_keep_2 16 rfl rfl)
theorem dX0_keep_65 : decode cX0_keep 65 = .ok (.getfield 76, 3) := dk_180 0 76 (dk_at dksX0_keep_2 17 rfl rfl)
theorem dX0_keep_68 : decode cX0_keep 68 = .ok (.iconst 0, 1) := dk_3 (dk_at dksX0_keep_2 20 rfl rfl)
theorem dX0_keep_69 : decode cX0_keep 69 = .ok (.bipush 12, 2) := dk_16 12 (dk_at dksX0_keep_2 21 rfl rfl)
theorem dX0_keep_71 : decode cX0_keep 71 = .ok (.invokestatic 152, 3) := dk_184 0 152 (dk_at dksX0_keep_3 0 rfl rfl)
theorem dX0_keep_74 : decode cX0_keep 74 = .ok (.iload_n 1, 1) := dk_27 (dk_at dksX0_keep_3 3 rfl rfl)
theorem dX0_keep_75 : decode cX0_keep 75 = .ok (.ifCond .eq 10, 3) := dk_153 0 10 (dk_at dksX0_keep_3 4 rfl rfl)
theorem dX0_keep_78 : decode cX0_keep 78 = .ok (.aload_n 0, 1) := dk_42 (dk_at dksX0_keep_3 7 rfl rfl)
theorem dX0_keep_79 : decode cX0_keep 79 = .ok (.getfield 79, 3) := dk_180 0 79 (dk_at dksX0_keep_3 8 rfl rfl)
theorem dX0_keep_82 : decode cX0_keep 82 = .ok (.goto 7, 3) := dk_167 0 7 (dk_at dksX0_keep_3 11 rfl rfl)
theorem dX0_keep_85 : decode cX0_keep 85 = .ok (.aload_n 0, 1) := dk_42 (dk_at dksX0_keep_3 14 rfl rfl)
theorem dX0_keep_86 : decode cX0_keep 86 = .ok (.getfield 31, 3) := dk_180 0 31 (dk_at dksX0_keep_3 15 rfl rfl)
theorem dX0_keep_89 : decode cX0_keep 89 = .ok (.iconst 0, 1) := dk_3 (dk_at dksX0_keep_3 18 rfl rfl)
theorem dX0_keep_90 : decode cX0_keep 90 = .ok (.iload_n 1, 1) := dk_27 (dk_at dksX0_keep_3 19 rfl rfl)
theorem dX0_keep_91 : decode cX0_keep 91 = .ok (.ifCond .eq 10, 3) := dk_153 0 10 (dk_at dksX0_keep_3 20 rfl rfl)
theorem dX0_keep_94 : decode cX0_keep 94 = .ok (.aload_n 0, 1) := dk_42 (dk_at dksX0_keep_3 23 rfl rfl)
theorem dX0_keep_95 : decode cX0_keep 95 = .ok (.getfield 31, 3) := dk_180 0 31 (dk_at dksX0_keep_4 0 rfl rfl)
theorem dX0_keep_98 : decode cX0_keep 98 = .ok (.goto 7, 3) := dk_167 0 7 (dk_at dksX0_keep_4 3 rfl rfl)
theorem dX0_keep_101 : decode cX0_keep 101 = .ok (.aload_n 0, 1) := dk_42 (dk_at dksX0_keep_4 6 rfl rfl)
theorem dX0_keep_102 : decode cX0_keep 102 = .ok (.getfield 79, 3) := dk_180 0 79 (dk_at dksX0_keep_4 7 rfl rfl)
theorem dX0_keep_105 : decode cX0_keep 105 = .ok (.iconst 0, 1) := dk_3 (dk_at dksX0_keep_4 10 rfl rfl)
theorem dX0_keep_106 : decode cX0_keep 106 = .ok (.bipush 12, 2) := dk_16 12 (dk_at dksX0_keep_4 11 rfl rfl)
theorem dX0_keep_108 : decode cX0_keep 108 = .ok (.invokestatic 152, 3) := dk_184 0 152 (dk_at dksX0_keep_4 13 rfl rfl)
theorem dX0_keep_111 : decode cX0_keep 111 = .ok (.iload_n 1, 1) := dk_27 (dk_at dksX0_keep_4 16 rfl rfl)
theorem dX0_keep_112 : decode cX0_keep 112 = .ok (.ifCond .eq 10, 3) := dk_153 0 10 (dk_at dksX0_keep_4 17 rfl rfl)
theorem dX0_keep_115 : decode cX0_keep 115 = .ok (.aload_n 0, 1) := dk_42 (dk_at dksX0_keep_4 20 rfl rfl)
theorem dX0_keep_116 : decode cX0_keep 116 = .ok (.getfield 82, 3) := dk_180 0 82 (dk_at dksX0_keep_4 21 rfl rfl)
theorem dX0_keep_119 : decode cX0_keep 119 = .ok (.goto 7, 3) := dk_167 0 7 (dk_at dksX0_keep_5 0 rfl rfl)
theorem dX0_keep_122 : decode cX0_keep 122 = .ok (.aload_n 0, 1) := dk_42 (dk_at dksX0_keep_5 3 rfl rfl)
theorem dX0_keep_123 : decode cX0_keep 123 = .ok (.getfield 34, 3) := dk_180 0 34 (dk_at dksX0_keep_5 4 rfl rfl)
theorem dX0_keep_126 : decode cX0_keep 126 = .ok (.iconst 0, 1) := dk_3 (dk_at dksX0_keep_5 7 rfl rfl)
theorem dX0_keep_127 : decode cX0_keep 127 = .ok (.iload_n 1, 1) := dk_27 (dk_at dksX0_keep_5 8 rfl rfl)
theorem dX0_keep_128 : decode cX0_keep 128 = .ok (.ifCond .eq 10, 3) := dk_153 0 10 (dk_at dksX0_keep_5 9 rfl rfl)
theorem dX0_keep_131 : decode cX0_keep 131 = .ok (.aload_n 0, 1) := dk_42 (dk_at dksX0_keep_5 12 rfl rfl)
theorem dX0_keep_132 : decode cX0_keep 132 = .ok (.getfield 34, 3) := dk_180 0 34 (dk_at dksX0_keep_5 13 rfl rfl)
theorem dX0_keep_135 : decode cX0_keep 135 = .ok (.goto 7, 3) := dk_167 0 7 (dk_at dksX0_keep_5 16 rfl rfl)
theorem dX0_keep_138 : decode cX0_keep 138 = .ok (.aload_n 0, 1) := dk_42 (dk_at dksX0_keep_5 19 rfl rfl)
theorem dX0_keep_139 : decode cX0_keep 139 = .ok (.getfield 82, 3) := dk_180 0 82 (dk_at dksX0_keep_5 20 rfl rfl)
theorem dX0_keep_142 : decode cX0_keep 142 = .ok (.iconst 0, 1) := dk_3 (dk_at dksX0_keep_5 23 rfl rfl)
theorem dX0_keep_143 : decode cX0_keep 143 = .ok (.bipush 12, 2) := dk_16 12 (dk_at dksX0_keep_6 0 rfl rfl)
theorem dX0_keep_145 : decode cX0_keep 145 = .ok (.invokestatic 152, 3) := dk_184 0 152 (dk_at dksX0_keep_6 2 rfl rfl)
theorem dX0_keep_148 : decode cX0_keep 148 = .ok (.iload_n 1, 1) := dk_27 (dk_at dksX0_keep_6 5 rfl rfl)
theorem dX0_keep_149 : decode cX0_keep 149 = .ok (.ifCond .eq 10, 3) := dk_153 0 10 (dk_at dksX0_keep_6 6 rfl rfl)
theorem dX0_keep_152 : decode cX0_keep 152 = .ok (.aload_n 0, 1) := dk_42 (dk_at dksX0_keep_6 9 rfl rfl)
theorem dX0_keep_153 : decode cX0_keep 153 = .ok (.getfield 85, 3) := dk_180 0 85 (dk_at dksX0_keep_6 10 rfl rfl)
theorem dX0_keep_156 : decode cX0_keep 156 = .ok (.goto 7, 3) := dk_167 0 7 (dk_at dksX0_keep_6 13 rfl rfl)
theorem dX0_keep_159 : decode cX0_keep 159 = .ok (.aload_n 0, 1) := dk_42 (dk_at dksX0_keep_6 16 rfl rfl)
theorem dX0_keep_160 : decode cX0_keep 160 = .ok (.getfield 37, 3) := dk_180 0 37 (dk_at dksX0_keep_6 17 rfl rfl)
theorem dX0_keep_163 : decode cX0_keep 163 = .ok (.iconst 0, 1) := dk_3 (dk_at dksX0_keep_6 20 rfl rfl)
theorem dX0_keep_164 : decode cX0_keep 164 = .ok (.iload_n 1, 1) := dk_27 (dk_at dksX0_keep_6 21 rfl rfl)
theorem dX0_keep_165 : decode cX0_keep 165 = .ok (.ifCond .eq 10, 3) := dk_153 0 10 (dk_at dksX0_keep_7 0 rfl rfl)
theorem dX0_keep_168 : decode cX0_keep 168 = .ok (.aload_n 0, 1) := dk_42 (dk_at dksX0_keep_7 3 rfl rfl)
theorem dX0_keep_169 : decode cX0_keep 169 = .ok (.getfield 37, 3) := dk_180 0 37 (dk_at dksX0_keep_7 4 rfl rfl)
theorem dX0_keep_172 : decode cX0_keep 172 = .ok (.goto 7, 3) := dk_167 0 7 (dk_at dksX0_keep_7 7 rfl rfl)
theorem dX0_keep_175 : decode cX0_keep 175 = .ok (.aload_n 0, 1) := dk_42 (dk_at dksX0_keep_7 10 rfl rfl)
theorem dX0_keep_176 : decode cX0_keep 176 = .ok (.getfield 85, 3) := dk_180 0 85 (dk_at dksX0_keep_7 11 rfl rfl)
theorem dX0_keep_179 : decode cX0_keep 179 = .ok (.iconst 0, 1) := dk_3 (dk_at dksX0_keep_7 14 rfl rfl)
theorem dX0_keep_180 : decode cX0_keep 180 = .ok (.bipush 12, 2) := dk_16 12 (dk_at dksX0_keep_7 15 rfl rfl)
theorem dX0_keep_182 : decode cX0_keep 182 = .ok (.invokestatic 152, 3) := dk_184 0 152 (dk_at dksX0_keep_7 17 rfl rfl)
theorem dX0_keep_185 : decode cX0_keep 185 = .ok (.iload_n 1, 1) := dk_27 (dk_at dksX0_keep_7 20 rfl rfl)
theorem dX0_keep_186 : decode cX0_keep 186 = .ok (.ifCond .eq 10, 3) := dk_153 0 10 (dk_at dksX0_keep_7 21 rfl rfl)
theorem dX0_keep_189 : decode cX0_keep 189 = .ok (.aload_n 0, 1) := dk_42 (dk_at dksX0_keep_8 0 rfl rfl)
theorem dX0_keep_190 : decode cX0_keep 190 = .ok (.getfield 88, 3) := dk_180 0 88 (dk_at dksX0_keep_8 1 rfl rfl)
theorem dX0_keep_193 : decode cX0_keep 193 = .ok (.goto 7, 3) := dk_167 0 7 (dk_at dksX0_keep_8 4 rfl rfl)
theorem dX0_keep_196 : decode cX0_keep 196 = .ok (.aload_n 0, 1) := dk_42 (dk_at dksX0_keep_8 7 rfl rfl)
theorem dX0_keep_197 : decode cX0_keep 197 = .ok (.getfield 22, 3) := dk_180 0 22 (dk_at dksX0_keep_8 8 rfl rfl)
theorem dX0_keep_200 : decode cX0_keep 200 = .ok (.iconst 0, 1) := dk_3 (dk_at dksX0_keep_8 11 rfl rfl)
theorem dX0_keep_201 : decode cX0_keep 201 = .ok (.iload_n 1, 1) := dk_27 (dk_at dksX0_keep_8 12 rfl rfl)
theorem dX0_keep_202 : decode cX0_keep 202 = .ok (.ifCond .eq 10, 3) := dk_153 0 10 (dk_at dksX0_keep_8 13 rfl rfl)
theorem dX0_keep_205 : decode cX0_keep 205 = .ok (.aload_n 0, 1) := dk_42 (dk_at dksX0_keep_8 16 rfl rfl)
theorem dX0_keep_206 : decode cX0_keep 206 = .ok (.getfield 22, 3) := dk_180 0 22 (dk_at dksX0_keep_8 17 rfl rfl)
theorem dX0_keep_209 : decode cX0_keep 209 = .ok (.goto 7, 3) := dk_167 0 7 (dk_at dksX0_keep_8 20 rfl rfl)
theorem dX0_keep_212 : decode cX0_keep 212 = .ok (.aload_n 0, 1) := dk_42 (dk_at dksX0_keep_8 23 rfl rfl)
theorem dX0_keep_213 : decode cX0_keep 213 = .ok (.getfield 88, 3) := dk_180 0 88 (dk_at dksX0_keep_9 0 rfl rfl)
theorem dX0_keep_216 : decode cX0_keep 216 = .ok (.iconst 0, 1) := dk_3 (dk_at dksX0_keep_9 3 rfl rfl)
theorem dX0_keep_217 : decode cX0_keep 217 = .ok (.iconst 3, 1) := dk_6 (dk_at dksX0_keep_9 4 rfl rfl)
theorem dX0_keep_218 : decode cX0_keep 218 = .ok (.invokestatic 152, 3) := dk_184 0 152 (dk_at dksX0_keep_9 5 rfl rfl)
theorem dX0_keep_221 : decode cX0_keep 221 = .ok (.return_, 1) := dk_177 (dk_at dksX0_keep_9 8 rfl rfl)
abbrev cX0_book : ByteArray := prog_1_method_46_code
def yX0_book : MethodName := ⟨RX0, "book", "(III)I"⟩
def dkwX0_book_2 : List UInt8 := [16, 241, 182, 0, 245, 172]
abbrev dktX0_book_2 : List UInt8 := dkwX0_book_2 ++ []
def dkwX0_book_1 : List UInt8 := [182, 0, 245, 172, 42, 180, 0, 93, 27, 28, 29, 184, 0, 248, 83, 42, 4, 182, 0, 252, 172, 58, 4, 42]
abbrev dktX0_book_1 : List UInt8 := dkwX0_book_1 ++ dktX0_book_2
def dkwX0_book_0 : List UInt8 := [27, 184, 0, 242, 153, 0, 17, 28, 3, 6, 184, 0, 101, 153, 0, 8, 29, 7, 164, 0, 9, 42, 2]
abbrev dktX0_book_0 : List UInt8 := dkwX0_book_0 ++ dktX0_book_1
theorem dksX0_book_0 : cX0_book.data.toList.drop 0 = dktX0_book_0 := by decide +kernel
theorem dksX0_book_1 : cX0_book.data.toList.drop 23 = dktX0_book_1 := dk_seg dksX0_book_0 23 rfl rfl
theorem dksX0_book_2 : cX0_book.data.toList.drop 47 = dktX0_book_2 := dk_seg dksX0_book_1 24 rfl rfl
theorem dX0_book_0 : decode cX0_book 0 = .ok (.iload_n 1, 1) := dk_27 (dk_at dksX0_book_0 0 rfl rfl)
theorem dX0_book_1 : decode cX0_book 1 = .ok (.invokestatic 242, 3) := dk_184 0 242 (dk_at dksX0_book_0 1 rfl rfl)
theorem dX0_book_4 : decode cX0_book 4 = .ok (.ifCond .eq 17, 3) := dk_153 0 17 (dk_at dksX0_book_0 4 rfl rfl)
theorem dX0_book_7 : decode cX0_book 7 = .ok (.iload_n 2, 1) := dk_28 (dk_at dksX0_book_0 7 rfl rfl)
theorem dX0_book_8 : decode cX0_book 8 = .ok (.iconst 0, 1) := dk_3 (dk_at dksX0_book_0 8 rfl rfl)
theorem dX0_book_9 : decode cX0_book 9 = .ok (.iconst 3, 1) := dk_6 (dk_at dksX0_book_0 9 rfl rfl)
theorem dX0_book_10 : decode cX0_book 10 = .ok (.invokestatic 101, 3) := dk_184 0 101 (dk_at dksX0_book_0 10 rfl rfl)
theorem dX0_book_13 : decode cX0_book 13 = .ok (.ifCond .eq 8, 3) := dk_153 0 8 (dk_at dksX0_book_0 13 rfl rfl)
theorem dX0_book_16 : decode cX0_book 16 = .ok (.iload_n 3, 1) := dk_29 (dk_at dksX0_book_0 16 rfl rfl)
theorem dX0_book_17 : decode cX0_book 17 = .ok (.iconst 4, 1) := dk_7 (dk_at dksX0_book_0 17 rfl rfl)
theorem dX0_book_18 : decode cX0_book 18 = .ok (.if_icmp .le 9, 3) := dk_164 0 9 (dk_at dksX0_book_0 18 rfl rfl)
theorem dX0_book_21 : decode cX0_book 21 = .ok (.aload_n 0, 1) := dk_42 (dk_at dksX0_book_0 21 rfl rfl)
theorem dX0_book_22 : decode cX0_book 22 = .ok (.iconst (-1), 1) := dk_2 (dk_at dksX0_book_0 22 rfl rfl)
theorem dX0_book_23 : decode cX0_book 23 = .ok (.invokevirtual 245, 3) := dk_182 0 245 (dk_at dksX0_book_1 0 rfl rfl)
theorem dX0_book_26 : decode cX0_book 26 = .ok (.ireturn, 1) := dk_172 (dk_at dksX0_book_1 3 rfl rfl)
theorem dX0_book_27 : decode cX0_book 27 = .ok (.aload_n 0, 1) := dk_42 (dk_at dksX0_book_1 4 rfl rfl)
theorem dX0_book_28 : decode cX0_book 28 = .ok (.getfield 93, 3) := dk_180 0 93 (dk_at dksX0_book_1 5 rfl rfl)
theorem dX0_book_31 : decode cX0_book 31 = .ok (.iload_n 1, 1) := dk_27 (dk_at dksX0_book_1 8 rfl rfl)
theorem dX0_book_32 : decode cX0_book 32 = .ok (.iload_n 2, 1) := dk_28 (dk_at dksX0_book_1 9 rfl rfl)
theorem dX0_book_33 : decode cX0_book 33 = .ok (.iload_n 3, 1) := dk_29 (dk_at dksX0_book_1 10 rfl rfl)
theorem dX0_book_34 : decode cX0_book 34 = .ok (.invokestatic 248, 3) := dk_184 0 248 (dk_at dksX0_book_1 11 rfl rfl)
theorem dX0_book_37 : decode cX0_book 37 = .ok (.aastore, 1) := dk_83 (dk_at dksX0_book_1 14 rfl rfl)
theorem dX0_book_38 : decode cX0_book 38 = .ok (.aload_n 0, 1) := dk_42 (dk_at dksX0_book_1 15 rfl rfl)
theorem dX0_book_39 : decode cX0_book 39 = .ok (.iconst 1, 1) := dk_4 (dk_at dksX0_book_1 16 rfl rfl)
theorem dX0_book_40 : decode cX0_book 40 = .ok (.invokevirtual 252, 3) := dk_182 0 252 (dk_at dksX0_book_1 17 rfl rfl)
theorem dX0_book_43 : decode cX0_book 43 = .ok (.ireturn, 1) := dk_172 (dk_at dksX0_book_1 20 rfl rfl)
theorem dX0_book_44 : decode cX0_book 44 = .ok (.astore 4, 2) := dk_58 4 (dk_at dksX0_book_1 21 rfl rfl)
theorem dX0_book_46 : decode cX0_book 46 = .ok (.aload_n 0, 1) := dk_42 (dk_at dksX0_book_1 23 rfl rfl)
theorem dX0_book_47 : decode cX0_book 47 = .ok (.bipush (-15), 2) := dk_16 241 (dk_at dksX0_book_2 0 rfl rfl)
theorem dX0_book_49 : decode cX0_book 49 = .ok (.invokevirtual 245, 3) := dk_182 0 245 (dk_at dksX0_book_2 2 rfl rfl)
theorem dX0_book_52 : decode cX0_book 52 = .ok (.ireturn, 1) := dk_172 (dk_at dksX0_book_2 5 rfl rfl)
abbrev cX0_isBook : ByteArray := prog_1_method_44_code
def yX0_isBook : MethodName := ⟨RX0, "isBook", "(I)Z"⟩
def dkwX0_isBook_0 : List UInt8 := [26, 3, 5, 184, 0, 101, 172]
abbrev dktX0_isBook_0 : List UInt8 := dkwX0_isBook_0 ++ []
theorem dksX0_isBook_0 : cX0_isBook.data.toList.drop 0 = dktX0_isBook_0 := by decide +kernel
theorem dX0_isBook_0 : decode cX0_isBook 0 = .ok (.iload_n 0, 1) := dk_26 (dk_at dksX0_isBook_0 0 rfl rfl)
theorem dX0_isBook_1 : decode cX0_isBook 1 = .ok (.iconst 0, 1) := dk_3 (dk_at dksX0_isBook_0 1 rfl rfl)
theorem dX0_isBook_2 : decode cX0_isBook 2 = .ok (.iconst 2, 1) := dk_5 (dk_at dksX0_isBook_0 2 rfl rfl)
theorem dX0_isBook_3 : decode cX0_isBook 3 = .ok (.invokestatic 101, 3) := dk_184 0 101 (dk_at dksX0_isBook_0 3 rfl rfl)
theorem dX0_isBook_6 : decode cX0_isBook 6 = .ok (.ireturn, 1) := dk_172 (dk_at dksX0_isBook_0 6 rfl rfl)
abbrev cX0_refused : ByteArray := prog_1_method_43_code
def yX0_refused : MethodName := ⟨RX0, "refused", "(I)I"⟩
def dkwX0_refused_0 : List UInt8 := [42, 27, 181, 0, 226, 27, 172]
abbrev dktX0_refused_0 : List UInt8 := dkwX0_refused_0 ++ []
theorem dksX0_refused_0 : cX0_refused.data.toList.drop 0 = dktX0_refused_0 := by decide +kernel
theorem dX0_refused_0 : decode cX0_refused 0 = .ok (.aload_n 0, 1) := dk_42 (dk_at dksX0_refused_0 0 rfl rfl)
theorem dX0_refused_1 : decode cX0_refused 1 = .ok (.iload_n 1, 1) := dk_27 (dk_at dksX0_refused_0 1 rfl rfl)
theorem dX0_refused_2 : decode cX0_refused 2 = .ok (.putfield 226, 3) := dk_181 0 226 (dk_at dksX0_refused_0 2 rfl rfl)
theorem dX0_refused_5 : decode cX0_refused 5 = .ok (.iload_n 1, 1) := dk_27 (dk_at dksX0_refused_0 5 rfl rfl)
theorem dX0_refused_6 : decode cX0_refused 6 = .ok (.ireturn, 1) := dk_172 (dk_at dksX0_refused_0 6 rfl rfl)
abbrev cX0_bookOf : ByteArray := prog_1_method_45_code
def yX0_bookOf : MethodName := ⟨RX0, "bookOf", "(II)LLadderCalls$Book;"⟩
def dkwX0_bookOf_3 : List UInt8 := [183, 0, 238, 176, 187, 0, 239, 89, 27, 183, 0, 241, 176]
abbrev dktX0_bookOf_3 : List UInt8 := dkwX0_bookOf_3 ++ []
def dkwX0_bookOf_2 : List UInt8 := [187, 0, 229, 89, 27, 183, 0, 231, 176, 187, 0, 233, 89, 27, 183, 0, 235, 176, 187, 0, 236, 89, 27]
abbrev dktX0_bookOf_2 : List UInt8 := dkwX0_bookOf_2 ++ dktX0_bookOf_3
def dkwX0_bookOf_1 : List UInt8 := [170, 0, 0, 0, 0, 0, 54, 0, 0, 0, 0, 0, 0, 0, 2, 0, 0, 0, 27, 0, 0, 0, 36, 0, 0, 0, 45]
abbrev dktX0_bookOf_1 : List UInt8 := dkwX0_bookOf_1 ++ dktX0_bookOf_2
def dkwX0_bookOf_0 : List UInt8 := [26]
abbrev dktX0_bookOf_0 : List UInt8 := dkwX0_bookOf_0 ++ dktX0_bookOf_1
theorem dksX0_bookOf_0 : cX0_bookOf.data.toList.drop 0 = dktX0_bookOf_0 := by decide +kernel
theorem dksX0_bookOf_1 : cX0_bookOf.data.toList.drop 1 = dktX0_bookOf_1 := dk_seg dksX0_bookOf_0 1 rfl rfl
theorem dksX0_bookOf_2 : cX0_bookOf.data.toList.drop 28 = dktX0_bookOf_2 := dk_seg dksX0_bookOf_1 27 rfl rfl
theorem dksX0_bookOf_3 : cX0_bookOf.data.toList.drop 51 = dktX0_bookOf_3 := dk_seg dksX0_bookOf_2 23 rfl rfl
theorem dX0_bookOf_0 : decode cX0_bookOf 0 = .ok (.iload_n 0, 1) := dk_26 (dk_at dksX0_bookOf_0 0 rfl rfl)
theorem dX0_bookOf_1 : decode cX0_bookOf 1 = .ok (.tableswitch 54 0 2 #[27, 36, 45], 27) := by decide +kernel
theorem dX0_bookOf_28 : decode cX0_bookOf 28 = .ok (.new 229, 3) := dk_187 0 229 (dk_at dksX0_bookOf_2 0 rfl rfl)
theorem dX0_bookOf_31 : decode cX0_bookOf 31 = .ok (.dup, 1) := dk_89 (dk_at dksX0_bookOf_2 3 rfl rfl)
theorem dX0_bookOf_32 : decode cX0_bookOf 32 = .ok (.iload_n 1, 1) := dk_27 (dk_at dksX0_bookOf_2 4 rfl rfl)
theorem dX0_bookOf_33 : decode cX0_bookOf 33 = .ok (.invokespecial 231, 3) := dk_183 0 231 (dk_at dksX0_bookOf_2 5 rfl rfl)
theorem dX0_bookOf_36 : decode cX0_bookOf 36 = .ok (.areturn, 1) := dk_176 (dk_at dksX0_bookOf_2 8 rfl rfl)
theorem dX0_bookOf_37 : decode cX0_bookOf 37 = .ok (.new 233, 3) := dk_187 0 233 (dk_at dksX0_bookOf_2 9 rfl rfl)
theorem dX0_bookOf_40 : decode cX0_bookOf 40 = .ok (.dup, 1) := dk_89 (dk_at dksX0_bookOf_2 12 rfl rfl)
theorem dX0_bookOf_41 : decode cX0_bookOf 41 = .ok (.iload_n 1, 1) := dk_27 (dk_at dksX0_bookOf_2 13 rfl rfl)
theorem dX0_bookOf_42 : decode cX0_bookOf 42 = .ok (.invokespecial 235, 3) := dk_183 0 235 (dk_at dksX0_bookOf_2 14 rfl rfl)
theorem dX0_bookOf_45 : decode cX0_bookOf 45 = .ok (.areturn, 1) := dk_176 (dk_at dksX0_bookOf_2 17 rfl rfl)
theorem dX0_bookOf_46 : decode cX0_bookOf 46 = .ok (.new 236, 3) := dk_187 0 236 (dk_at dksX0_bookOf_2 18 rfl rfl)
theorem dX0_bookOf_49 : decode cX0_bookOf 49 = .ok (.dup, 1) := dk_89 (dk_at dksX0_bookOf_2 21 rfl rfl)
theorem dX0_bookOf_50 : decode cX0_bookOf 50 = .ok (.iload_n 1, 1) := dk_27 (dk_at dksX0_bookOf_2 22 rfl rfl)
theorem dX0_bookOf_51 : decode cX0_bookOf 51 = .ok (.invokespecial 238, 3) := dk_183 0 238 (dk_at dksX0_bookOf_3 0 rfl rfl)
theorem dX0_bookOf_54 : decode cX0_bookOf 54 = .ok (.areturn, 1) := dk_176 (dk_at dksX0_bookOf_3 3 rfl rfl)
theorem dX0_bookOf_55 : decode cX0_bookOf 55 = .ok (.new 239, 3) := dk_187 0 239 (dk_at dksX0_bookOf_3 4 rfl rfl)
theorem dX0_bookOf_58 : decode cX0_bookOf 58 = .ok (.dup, 1) := dk_89 (dk_at dksX0_bookOf_3 7 rfl rfl)
theorem dX0_bookOf_59 : decode cX0_bookOf 59 = .ok (.iload_n 1, 1) := dk_27 (dk_at dksX0_bookOf_3 8 rfl rfl)
theorem dX0_bookOf_60 : decode cX0_bookOf 60 = .ok (.invokespecial 241, 3) := dk_183 0 241 (dk_at dksX0_bookOf_3 9 rfl rfl)
theorem dX0_bookOf_63 : decode cX0_bookOf 63 = .ok (.areturn, 1) := dk_176 (dk_at dksX0_bookOf_3 12 rfl rfl)
abbrev cX0_says : ByteArray := prog_1_method_42_code
def yX0_says : MethodName := ⟨RX0, "says", "(I)I"⟩
def dkwX0_says_0 : List UInt8 := [42, 3, 181, 0, 226, 27, 172]
abbrev dktX0_says_0 : List UInt8 := dkwX0_says_0 ++ []
theorem dksX0_says_0 : cX0_says.data.toList.drop 0 = dktX0_says_0 := by decide +kernel
theorem dX0_says_0 : decode cX0_says 0 = .ok (.aload_n 0, 1) := dk_42 (dk_at dksX0_says_0 0 rfl rfl)
theorem dX0_says_1 : decode cX0_says 1 = .ok (.iconst 0, 1) := dk_3 (dk_at dksX0_says_0 1 rfl rfl)
theorem dX0_says_2 : decode cX0_says 2 = .ok (.putfield 226, 3) := dk_181 0 226 (dk_at dksX0_says_0 2 rfl rfl)
theorem dX0_says_5 : decode cX0_says 5 = .ok (.iload_n 1, 1) := dk_27 (dk_at dksX0_says_0 5 rfl rfl)
theorem dX0_says_6 : decode cX0_says 6 = .ok (.ireturn, 1) := dk_172 (dk_at dksX0_says_0 6 rfl rfl)
abbrev cX0_row : ByteArray := prog_1_method_47_code
def yX0_row : MethodName := ⟨RX0, "row", "(III)I"⟩
def dkwX0_row_2 : List UInt8 := [16, 244, 182, 0, 245, 172, 58, 4, 42, 16, 241, 182, 0, 245, 172]
abbrev dktX0_row_2 : List UInt8 := dkwX0_row_2 ++ []
def dkwX0_row_1 : List UInt8 := [50, 28, 29, 182, 1, 1, 42, 4, 182, 0, 252, 172, 58, 4, 42, 16, 245, 182, 0, 245, 172, 58, 4, 42]
abbrev dktX0_row_1 : List UInt8 := dkwX0_row_1 ++ dktX0_row_2
def dkwX0_row_0 : List UInt8 := [27, 184, 0, 242, 153, 0, 9, 29, 16, 8, 164, 0, 9, 42, 2, 182, 0, 245, 172, 42, 180, 0, 93, 27]
abbrev dktX0_row_0 : List UInt8 := dkwX0_row_0 ++ dktX0_row_1
theorem dksX0_row_0 : cX0_row.data.toList.drop 0 = dktX0_row_0 := by decide +kernel
theorem dksX0_row_1 : cX0_row.data.toList.drop 24 = dktX0_row_1 := dk_seg dksX0_row_0 24 rfl rfl
theorem dksX0_row_2 : cX0_row.data.toList.drop 48 = dktX0_row_2 := dk_seg dksX0_row_1 24 rfl rfl
theorem dX0_row_0 : decode cX0_row 0 = .ok (.iload_n 1, 1) := dk_27 (dk_at dksX0_row_0 0 rfl rfl)
theorem dX0_row_1 : decode cX0_row 1 = .ok (.invokestatic 242, 3) := dk_184 0 242 (dk_at dksX0_row_0 1 rfl rfl)
theorem dX0_row_4 : decode cX0_row 4 = .ok (.ifCond .eq 9, 3) := dk_153 0 9 (dk_at dksX0_row_0 4 rfl rfl)
theorem dX0_row_7 : decode cX0_row 7 = .ok (.iload_n 3, 1) := dk_29 (dk_at dksX0_row_0 7 rfl rfl)
theorem dX0_row_8 : decode cX0_row 8 = .ok (.bipush 8, 2) := dk_16 8 (dk_at dksX0_row_0 8 rfl rfl)
theorem dX0_row_10 : decode cX0_row 10 = .ok (.if_icmp .le 9, 3) := dk_164 0 9 (dk_at dksX0_row_0 10 rfl rfl)
theorem dX0_row_13 : decode cX0_row 13 = .ok (.aload_n 0, 1) := dk_42 (dk_at dksX0_row_0 13 rfl rfl)
theorem dX0_row_14 : decode cX0_row 14 = .ok (.iconst (-1), 1) := dk_2 (dk_at dksX0_row_0 14 rfl rfl)
theorem dX0_row_15 : decode cX0_row 15 = .ok (.invokevirtual 245, 3) := dk_182 0 245 (dk_at dksX0_row_0 15 rfl rfl)
theorem dX0_row_18 : decode cX0_row 18 = .ok (.ireturn, 1) := dk_172 (dk_at dksX0_row_0 18 rfl rfl)
theorem dX0_row_19 : decode cX0_row 19 = .ok (.aload_n 0, 1) := dk_42 (dk_at dksX0_row_0 19 rfl rfl)
theorem dX0_row_20 : decode cX0_row 20 = .ok (.getfield 93, 3) := dk_180 0 93 (dk_at dksX0_row_0 20 rfl rfl)
theorem dX0_row_23 : decode cX0_row 23 = .ok (.iload_n 1, 1) := dk_27 (dk_at dksX0_row_0 23 rfl rfl)
theorem dX0_row_24 : decode cX0_row 24 = .ok (.aaload, 1) := dk_50 (dk_at dksX0_row_1 0 rfl rfl)
theorem dX0_row_25 : decode cX0_row 25 = .ok (.iload_n 2, 1) := dk_28 (dk_at dksX0_row_1 1 rfl rfl)
theorem dX0_row_26 : decode cX0_row 26 = .ok (.iload_n 3, 1) := dk_29 (dk_at dksX0_row_1 2 rfl rfl)
theorem dX0_row_27 : decode cX0_row 27 = .ok (.invokevirtual 257, 3) := dk_182 1 1 (dk_at dksX0_row_1 3 rfl rfl)
theorem dX0_row_30 : decode cX0_row 30 = .ok (.aload_n 0, 1) := dk_42 (dk_at dksX0_row_1 6 rfl rfl)
theorem dX0_row_31 : decode cX0_row 31 = .ok (.iconst 1, 1) := dk_4 (dk_at dksX0_row_1 7 rfl rfl)
theorem dX0_row_32 : decode cX0_row 32 = .ok (.invokevirtual 252, 3) := dk_182 0 252 (dk_at dksX0_row_1 8 rfl rfl)
theorem dX0_row_35 : decode cX0_row 35 = .ok (.ireturn, 1) := dk_172 (dk_at dksX0_row_1 11 rfl rfl)
theorem dX0_row_36 : decode cX0_row 36 = .ok (.astore 4, 2) := dk_58 4 (dk_at dksX0_row_1 12 rfl rfl)
theorem dX0_row_38 : decode cX0_row 38 = .ok (.aload_n 0, 1) := dk_42 (dk_at dksX0_row_1 14 rfl rfl)
theorem dX0_row_39 : decode cX0_row 39 = .ok (.bipush (-11), 2) := dk_16 245 (dk_at dksX0_row_1 15 rfl rfl)
theorem dX0_row_41 : decode cX0_row 41 = .ok (.invokevirtual 245, 3) := dk_182 0 245 (dk_at dksX0_row_1 17 rfl rfl)
theorem dX0_row_44 : decode cX0_row 44 = .ok (.ireturn, 1) := dk_172 (dk_at dksX0_row_1 20 rfl rfl)
theorem dX0_row_45 : decode cX0_row 45 = .ok (.astore 4, 2) := dk_58 4 (dk_at dksX0_row_1 21 rfl rfl)
theorem dX0_row_47 : decode cX0_row 47 = .ok (.aload_n 0, 1) := dk_42 (dk_at dksX0_row_1 23 rfl rfl)
theorem dX0_row_48 : decode cX0_row 48 = .ok (.bipush (-12), 2) := dk_16 244 (dk_at dksX0_row_2 0 rfl rfl)
theorem dX0_row_50 : decode cX0_row 50 = .ok (.invokevirtual 245, 3) := dk_182 0 245 (dk_at dksX0_row_2 2 rfl rfl)
theorem dX0_row_53 : decode cX0_row 53 = .ok (.ireturn, 1) := dk_172 (dk_at dksX0_row_2 5 rfl rfl)
theorem dX0_row_54 : decode cX0_row 54 = .ok (.astore 4, 2) := dk_58 4 (dk_at dksX0_row_2 6 rfl rfl)
theorem dX0_row_56 : decode cX0_row 56 = .ok (.aload_n 0, 1) := dk_42 (dk_at dksX0_row_2 8 rfl rfl)
theorem dX0_row_57 : decode cX0_row 57 = .ok (.bipush (-15), 2) := dk_16 241 (dk_at dksX0_row_2 9 rfl rfl)
theorem dX0_row_59 : decode cX0_row 59 = .ok (.invokevirtual 245, 3) := dk_182 0 245 (dk_at dksX0_row_2 11 rfl rfl)
theorem dX0_row_62 : decode cX0_row 62 = .ok (.ireturn, 1) := dk_172 (dk_at dksX0_row_2 14 rfl rfl)
abbrev cX0_put : ByteArray := prog_1_method_49_code
def yX0_put : MethodName := ⟨RX0, "put", "(IIIIJ)I"⟩
def dkwX0_put_2 : List UInt8 := [16, 245, 182, 0, 245, 172, 58, 7, 42, 16, 243, 182, 0, 245, 172, 58, 7, 42, 16, 244, 182, 0, 245, 172]
abbrev dktX0_put_2 : List UInt8 := dkwX0_put_2 ++ []
def dkwX0_put_1 : List UInt8 := [180, 0, 93, 27, 50, 28, 29, 21, 4, 22, 5, 184, 1, 21, 42, 4, 182, 0, 252, 172, 58, 7, 42]
abbrev dktX0_put_1 : List UInt8 := dkwX0_put_1 ++ dktX0_put_2
def dkwX0_put_0 : List UInt8 := [27, 184, 0, 242, 153, 0, 12, 28, 3, 6, 184, 0, 101, 154, 0, 9, 42, 2, 182, 0, 245, 172, 42]
abbrev dktX0_put_0 : List UInt8 := dkwX0_put_0 ++ dktX0_put_1
theorem dksX0_put_0 : cX0_put.data.toList.drop 0 = dktX0_put_0 := by decide +kernel
theorem dksX0_put_1 : cX0_put.data.toList.drop 23 = dktX0_put_1 := dk_seg dksX0_put_0 23 rfl rfl
theorem dksX0_put_2 : cX0_put.data.toList.drop 46 = dktX0_put_2 := dk_seg dksX0_put_1 23 rfl rfl
theorem dX0_put_0 : decode cX0_put 0 = .ok (.iload_n 1, 1) := dk_27 (dk_at dksX0_put_0 0 rfl rfl)
theorem dX0_put_1 : decode cX0_put 1 = .ok (.invokestatic 242, 3) := dk_184 0 242 (dk_at dksX0_put_0 1 rfl rfl)
theorem dX0_put_4 : decode cX0_put 4 = .ok (.ifCond .eq 12, 3) := dk_153 0 12 (dk_at dksX0_put_0 4 rfl rfl)
theorem dX0_put_7 : decode cX0_put 7 = .ok (.iload_n 2, 1) := dk_28 (dk_at dksX0_put_0 7 rfl rfl)
theorem dX0_put_8 : decode cX0_put 8 = .ok (.iconst 0, 1) := dk_3 (dk_at dksX0_put_0 8 rfl rfl)
theorem dX0_put_9 : decode cX0_put 9 = .ok (.iconst 3, 1) := dk_6 (dk_at dksX0_put_0 9 rfl rfl)
theorem dX0_put_10 : decode cX0_put 10 = .ok (.invokestatic 101, 3) := dk_184 0 101 (dk_at dksX0_put_0 10 rfl rfl)
theorem dX0_put_13 : decode cX0_put 13 = .ok (.ifCond .ne 9, 3) := dk_154 0 9 (dk_at dksX0_put_0 13 rfl rfl)
theorem dX0_put_16 : decode cX0_put 16 = .ok (.aload_n 0, 1) := dk_42 (dk_at dksX0_put_0 16 rfl rfl)
theorem dX0_put_17 : decode cX0_put 17 = .ok (.iconst (-1), 1) := dk_2 (dk_at dksX0_put_0 17 rfl rfl)
theorem dX0_put_18 : decode cX0_put 18 = .ok (.invokevirtual 245, 3) := dk_182 0 245 (dk_at dksX0_put_0 18 rfl rfl)
theorem dX0_put_21 : decode cX0_put 21 = .ok (.ireturn, 1) := dk_172 (dk_at dksX0_put_0 21 rfl rfl)
theorem dX0_put_22 : decode cX0_put 22 = .ok (.aload_n 0, 1) := dk_42 (dk_at dksX0_put_0 22 rfl rfl)
theorem dX0_put_23 : decode cX0_put 23 = .ok (.getfield 93, 3) := dk_180 0 93 (dk_at dksX0_put_1 0 rfl rfl)
theorem dX0_put_26 : decode cX0_put 26 = .ok (.iload_n 1, 1) := dk_27 (dk_at dksX0_put_1 3 rfl rfl)
theorem dX0_put_27 : decode cX0_put 27 = .ok (.aaload, 1) := dk_50 (dk_at dksX0_put_1 4 rfl rfl)
theorem dX0_put_28 : decode cX0_put 28 = .ok (.iload_n 2, 1) := dk_28 (dk_at dksX0_put_1 5 rfl rfl)
theorem dX0_put_29 : decode cX0_put 29 = .ok (.iload_n 3, 1) := dk_29 (dk_at dksX0_put_1 6 rfl rfl)
theorem dX0_put_30 : decode cX0_put 30 = .ok (.iload 4, 2) := dk_21 4 (dk_at dksX0_put_1 7 rfl rfl)
theorem dX0_put_32 : decode cX0_put 32 = .ok (.lload 5, 2) := dk_22 5 (dk_at dksX0_put_1 9 rfl rfl)
theorem dX0_put_34 : decode cX0_put 34 = .ok (.invokestatic 277, 3) := dk_184 1 21 (dk_at dksX0_put_1 11 rfl rfl)
theorem dX0_put_37 : decode cX0_put 37 = .ok (.aload_n 0, 1) := dk_42 (dk_at dksX0_put_1 14 rfl rfl)
theorem dX0_put_38 : decode cX0_put 38 = .ok (.iconst 1, 1) := dk_4 (dk_at dksX0_put_1 15 rfl rfl)
theorem dX0_put_39 : decode cX0_put 39 = .ok (.invokevirtual 252, 3) := dk_182 0 252 (dk_at dksX0_put_1 16 rfl rfl)
theorem dX0_put_42 : decode cX0_put 42 = .ok (.ireturn, 1) := dk_172 (dk_at dksX0_put_1 19 rfl rfl)
theorem dX0_put_43 : decode cX0_put 43 = .ok (.astore 7, 2) := dk_58 7 (dk_at dksX0_put_1 20 rfl rfl)
theorem dX0_put_45 : decode cX0_put 45 = .ok (.aload_n 0, 1) := dk_42 (dk_at dksX0_put_1 22 rfl rfl)
theorem dX0_put_46 : decode cX0_put 46 = .ok (.bipush (-11), 2) := dk_16 245 (dk_at dksX0_put_2 0 rfl rfl)
theorem dX0_put_48 : decode cX0_put 48 = .ok (.invokevirtual 245, 3) := dk_182 0 245 (dk_at dksX0_put_2 2 rfl rfl)
theorem dX0_put_51 : decode cX0_put 51 = .ok (.ireturn, 1) := dk_172 (dk_at dksX0_put_2 5 rfl rfl)
theorem dX0_put_52 : decode cX0_put 52 = .ok (.astore 7, 2) := dk_58 7 (dk_at dksX0_put_2 6 rfl rfl)
theorem dX0_put_54 : decode cX0_put 54 = .ok (.aload_n 0, 1) := dk_42 (dk_at dksX0_put_2 8 rfl rfl)
theorem dX0_put_55 : decode cX0_put 55 = .ok (.bipush (-13), 2) := dk_16 243 (dk_at dksX0_put_2 9 rfl rfl)
theorem dX0_put_57 : decode cX0_put 57 = .ok (.invokevirtual 245, 3) := dk_182 0 245 (dk_at dksX0_put_2 11 rfl rfl)
theorem dX0_put_60 : decode cX0_put 60 = .ok (.ireturn, 1) := dk_172 (dk_at dksX0_put_2 14 rfl rfl)
theorem dX0_put_61 : decode cX0_put 61 = .ok (.astore 7, 2) := dk_58 7 (dk_at dksX0_put_2 15 rfl rfl)
theorem dX0_put_63 : decode cX0_put 63 = .ok (.aload_n 0, 1) := dk_42 (dk_at dksX0_put_2 17 rfl rfl)
theorem dX0_put_64 : decode cX0_put 64 = .ok (.bipush (-12), 2) := dk_16 244 (dk_at dksX0_put_2 18 rfl rfl)
theorem dX0_put_66 : decode cX0_put 66 = .ok (.invokevirtual 245, 3) := dk_182 0 245 (dk_at dksX0_put_2 20 rfl rfl)
theorem dX0_put_69 : decode cX0_put 69 = .ok (.ireturn, 1) := dk_172 (dk_at dksX0_put_2 23 rfl rfl)
abbrev cX0_putIn : ByteArray := prog_1_method_48_code
def yX0_putIn : MethodName := ⟨RX0, "putIn", "(LLadderCalls$Book;IIIJ)V"⟩
def dkwX0_putIn_5 : List UInt8 := [180, 1, 18, 58, 9, 25, 9, 28, 50, 29, 22, 4, 80, 177]
abbrev dktX0_putIn_5 : List UInt8 := dkwX0_putIn_5 ++ []
def dkwX0_putIn_4 : List UInt8 := [192, 0, 236, 180, 1, 16, 58, 8, 25, 8, 28, 50, 29, 22, 4, 136, 79, 167, 0, 20, 42, 192, 0, 239]
abbrev dktX0_putIn_4 : List UInt8 := dkwX0_putIn_4 ++ dktX0_putIn_5
def dkwX0_putIn_3 : List UInt8 := [192, 0, 233, 180, 1, 13, 58, 7, 25, 7, 28, 50, 29, 22, 4, 136, 147, 86, 167, 0, 41, 42]
abbrev dktX0_putIn_3 : List UInt8 := dkwX0_putIn_3 ++ dktX0_putIn_4
def dkwX0_putIn_2 : List UInt8 := [42, 192, 0, 229, 180, 1, 9, 58, 6, 25, 6, 28, 50, 29, 22, 4, 136, 145, 84, 167, 0, 63, 42]
abbrev dktX0_putIn_2 : List UInt8 := dkwX0_putIn_2 ++ dktX0_putIn_3
def dkwX0_putIn_1 : List UInt8 := [170, 0, 0, 0, 0, 0, 92, 0, 0, 0, 0, 0, 0, 0, 2, 0, 0, 0, 27, 0, 0, 0, 49, 0, 0, 0, 71]
abbrev dktX0_putIn_1 : List UInt8 := dkwX0_putIn_1 ++ dktX0_putIn_2
def dkwX0_putIn_0 : List UInt8 := [27]
abbrev dktX0_putIn_0 : List UInt8 := dkwX0_putIn_0 ++ dktX0_putIn_1
theorem dksX0_putIn_0 : cX0_putIn.data.toList.drop 0 = dktX0_putIn_0 := by decide +kernel
theorem dksX0_putIn_1 : cX0_putIn.data.toList.drop 1 = dktX0_putIn_1 := dk_seg dksX0_putIn_0 1 rfl rfl
theorem dksX0_putIn_2 : cX0_putIn.data.toList.drop 28 = dktX0_putIn_2 := dk_seg dksX0_putIn_1 27 rfl rfl
theorem dksX0_putIn_3 : cX0_putIn.data.toList.drop 51 = dktX0_putIn_3 := dk_seg dksX0_putIn_2 23 rfl rfl
theorem dksX0_putIn_4 : cX0_putIn.data.toList.drop 73 = dktX0_putIn_4 := dk_seg dksX0_putIn_3 22 rfl rfl
theorem dksX0_putIn_5 : cX0_putIn.data.toList.drop 97 = dktX0_putIn_5 := dk_seg dksX0_putIn_4 24 rfl rfl
theorem dX0_putIn_0 : decode cX0_putIn 0 = .ok (.iload_n 1, 1) := dk_27 (dk_at dksX0_putIn_0 0 rfl rfl)
theorem dX0_putIn_1 : decode cX0_putIn 1 = .ok (.tableswitch 92 0 2 #[27, 49, 71], 27) := by decide +kernel
theorem dX0_putIn_28 : decode cX0_putIn 28 = .ok (.aload_n 0, 1) := dk_42 (dk_at dksX0_putIn_2 0 rfl rfl)
theorem dX0_putIn_29 : decode cX0_putIn 29 = .ok (.checkcast 229, 3) := dk_192 0 229 (dk_at dksX0_putIn_2 1 rfl rfl)
theorem dX0_putIn_32 : decode cX0_putIn 32 = .ok (.getfield 265, 3) := dk_180 1 9 (dk_at dksX0_putIn_2 4 rfl rfl)
theorem dX0_putIn_35 : decode cX0_putIn 35 = .ok (.astore 6, 2) := dk_58 6 (dk_at dksX0_putIn_2 7 rfl rfl)
theorem dX0_putIn_37 : decode cX0_putIn 37 = .ok (.aload 6, 2) := dk_25 6 (dk_at dksX0_putIn_2 9 rfl rfl)
theorem dX0_putIn_39 : decode cX0_putIn 39 = .ok (.iload_n 2, 1) := dk_28 (dk_at dksX0_putIn_2 11 rfl rfl)
theorem dX0_putIn_40 : decode cX0_putIn 40 = .ok (.aaload, 1) := dk_50 (dk_at dksX0_putIn_2 12 rfl rfl)
theorem dX0_putIn_41 : decode cX0_putIn 41 = .ok (.iload_n 3, 1) := dk_29 (dk_at dksX0_putIn_2 13 rfl rfl)
theorem dX0_putIn_42 : decode cX0_putIn 42 = .ok (.lload 4, 2) := dk_22 4 (dk_at dksX0_putIn_2 14 rfl rfl)
theorem dX0_putIn_44 : decode cX0_putIn 44 = .ok (.l2i, 1) := dk_136 (dk_at dksX0_putIn_2 16 rfl rfl)
theorem dX0_putIn_45 : decode cX0_putIn 45 = .ok (.i2b, 1) := dk_145 (dk_at dksX0_putIn_2 17 rfl rfl)
theorem dX0_putIn_46 : decode cX0_putIn 46 = .ok (.bastore, 1) := dk_84 (dk_at dksX0_putIn_2 18 rfl rfl)
theorem dX0_putIn_47 : decode cX0_putIn 47 = .ok (.goto 63, 3) := dk_167 0 63 (dk_at dksX0_putIn_2 19 rfl rfl)
theorem dX0_putIn_50 : decode cX0_putIn 50 = .ok (.aload_n 0, 1) := dk_42 (dk_at dksX0_putIn_2 22 rfl rfl)
theorem dX0_putIn_51 : decode cX0_putIn 51 = .ok (.checkcast 233, 3) := dk_192 0 233 (dk_at dksX0_putIn_3 0 rfl rfl)
theorem dX0_putIn_54 : decode cX0_putIn 54 = .ok (.getfield 269, 3) := dk_180 1 13 (dk_at dksX0_putIn_3 3 rfl rfl)
theorem dX0_putIn_57 : decode cX0_putIn 57 = .ok (.astore 7, 2) := dk_58 7 (dk_at dksX0_putIn_3 6 rfl rfl)
theorem dX0_putIn_59 : decode cX0_putIn 59 = .ok (.aload 7, 2) := dk_25 7 (dk_at dksX0_putIn_3 8 rfl rfl)
theorem dX0_putIn_61 : decode cX0_putIn 61 = .ok (.iload_n 2, 1) := dk_28 (dk_at dksX0_putIn_3 10 rfl rfl)
theorem dX0_putIn_62 : decode cX0_putIn 62 = .ok (.aaload, 1) := dk_50 (dk_at dksX0_putIn_3 11 rfl rfl)
theorem dX0_putIn_63 : decode cX0_putIn 63 = .ok (.iload_n 3, 1) := dk_29 (dk_at dksX0_putIn_3 12 rfl rfl)
theorem dX0_putIn_64 : decode cX0_putIn 64 = .ok (.lload 4, 2) := dk_22 4 (dk_at dksX0_putIn_3 13 rfl rfl)
theorem dX0_putIn_66 : decode cX0_putIn 66 = .ok (.l2i, 1) := dk_136 (dk_at dksX0_putIn_3 15 rfl rfl)
theorem dX0_putIn_67 : decode cX0_putIn 67 = .ok (.i2s, 1) := dk_147 (dk_at dksX0_putIn_3 16 rfl rfl)
theorem dX0_putIn_68 : decode cX0_putIn 68 = .ok (.sastore, 1) := dk_86 (dk_at dksX0_putIn_3 17 rfl rfl)
theorem dX0_putIn_69 : decode cX0_putIn 69 = .ok (.goto 41, 3) := dk_167 0 41 (dk_at dksX0_putIn_3 18 rfl rfl)
theorem dX0_putIn_72 : decode cX0_putIn 72 = .ok (.aload_n 0, 1) := dk_42 (dk_at dksX0_putIn_3 21 rfl rfl)
theorem dX0_putIn_73 : decode cX0_putIn 73 = .ok (.checkcast 236, 3) := dk_192 0 236 (dk_at dksX0_putIn_4 0 rfl rfl)
theorem dX0_putIn_76 : decode cX0_putIn 76 = .ok (.getfield 272, 3) := dk_180 1 16 (dk_at dksX0_putIn_4 3 rfl rfl)
theorem dX0_putIn_79 : decode cX0_putIn 79 = .ok (.astore 8, 2) := dk_58 8 (dk_at dksX0_putIn_4 6 rfl rfl)
theorem dX0_putIn_81 : decode cX0_putIn 81 = .ok (.aload 8, 2) := dk_25 8 (dk_at dksX0_putIn_4 8 rfl rfl)
theorem dX0_putIn_83 : decode cX0_putIn 83 = .ok (.iload_n 2, 1) := dk_28 (dk_at dksX0_putIn_4 10 rfl rfl)
theorem dX0_putIn_84 : decode cX0_putIn 84 = .ok (.aaload, 1) := dk_50 (dk_at dksX0_putIn_4 11 rfl rfl)
theorem dX0_putIn_85 : decode cX0_putIn 85 = .ok (.iload_n 3, 1) := dk_29 (dk_at dksX0_putIn_4 12 rfl rfl)
theorem dX0_putIn_86 : decode cX0_putIn 86 = .ok (.lload 4, 2) := dk_22 4 (dk_at dksX0_putIn_4 13 rfl rfl)
theorem dX0_putIn_88 : decode cX0_putIn 88 = .ok (.l2i, 1) := dk_136 (dk_at dksX0_putIn_4 15 rfl rfl)
theorem dX0_putIn_89 : decode cX0_putIn 89 = .ok (.iastore, 1) := dk_79 (dk_at dksX0_putIn_4 16 rfl rfl)
theorem dX0_putIn_90 : decode cX0_putIn 90 = .ok (.goto 20, 3) := dk_167 0 20 (dk_at dksX0_putIn_4 17 rfl rfl)
theorem dX0_putIn_93 : decode cX0_putIn 93 = .ok (.aload_n 0, 1) := dk_42 (dk_at dksX0_putIn_4 20 rfl rfl)
theorem dX0_putIn_94 : decode cX0_putIn 94 = .ok (.checkcast 239, 3) := dk_192 0 239 (dk_at dksX0_putIn_4 21 rfl rfl)
theorem dX0_putIn_97 : decode cX0_putIn 97 = .ok (.getfield 274, 3) := dk_180 1 18 (dk_at dksX0_putIn_5 0 rfl rfl)
theorem dX0_putIn_100 : decode cX0_putIn 100 = .ok (.astore 9, 2) := dk_58 9 (dk_at dksX0_putIn_5 3 rfl rfl)
theorem dX0_putIn_102 : decode cX0_putIn 102 = .ok (.aload 9, 2) := dk_25 9 (dk_at dksX0_putIn_5 5 rfl rfl)
theorem dX0_putIn_104 : decode cX0_putIn 104 = .ok (.iload_n 2, 1) := dk_28 (dk_at dksX0_putIn_5 7 rfl rfl)
theorem dX0_putIn_105 : decode cX0_putIn 105 = .ok (.aaload, 1) := dk_50 (dk_at dksX0_putIn_5 8 rfl rfl)
theorem dX0_putIn_106 : decode cX0_putIn 106 = .ok (.iload_n 3, 1) := dk_29 (dk_at dksX0_putIn_5 9 rfl rfl)
theorem dX0_putIn_107 : decode cX0_putIn 107 = .ok (.lload 4, 2) := dk_22 4 (dk_at dksX0_putIn_5 10 rfl rfl)
theorem dX0_putIn_109 : decode cX0_putIn 109 = .ok (.lastore, 1) := dk_80 (dk_at dksX0_putIn_5 12 rfl rfl)
theorem dX0_putIn_110 : decode cX0_putIn 110 = .ok (.return_, 1) := dk_177 (dk_at dksX0_putIn_5 13 rfl rfl)
abbrev cX0_item : ByteArray := prog_1_method_51_code
def yX0_item : MethodName := ⟨RX0, "item", "(IIII)J"⟩
def dkwX0_item_3 : List UInt8 := [9, 173]
abbrev dktX0_item_3 : List UInt8 := dkwX0_item_3 ++ []
def dkwX0_item_2 : List UInt8 := [167, 0, 18, 58, 6, 16, 243, 54, 5, 167, 0, 9, 58, 6, 16, 244, 54, 5, 42, 21, 5, 181, 0, 226]
abbrev dktX0_item_2 : List UInt8 := dkwX0_item_2 ++ dktX0_item_3
def dkwX0_item_1 : List UInt8 := [50, 28, 29, 21, 4, 184, 1, 27, 55, 6, 42, 3, 181, 0, 226, 22, 6, 173, 58, 6, 16, 245, 54, 5]
abbrev dktX0_item_1 : List UInt8 := dkwX0_item_1 ++ dktX0_item_2
def dkwX0_item_0 : List UInt8 := [2, 54, 5, 27, 184, 0, 242, 153, 0, 59, 28, 3, 6, 184, 0, 101, 153, 0, 50, 42, 180, 0, 93, 27]
abbrev dktX0_item_0 : List UInt8 := dkwX0_item_0 ++ dktX0_item_1
theorem dksX0_item_0 : cX0_item.data.toList.drop 0 = dktX0_item_0 := by decide +kernel
theorem dksX0_item_1 : cX0_item.data.toList.drop 24 = dktX0_item_1 := dk_seg dksX0_item_0 24 rfl rfl
theorem dksX0_item_2 : cX0_item.data.toList.drop 48 = dktX0_item_2 := dk_seg dksX0_item_1 24 rfl rfl
theorem dksX0_item_3 : cX0_item.data.toList.drop 72 = dktX0_item_3 := dk_seg dksX0_item_2 24 rfl rfl
theorem dX0_item_0 : decode cX0_item 0 = .ok (.iconst (-1), 1) := dk_2 (dk_at dksX0_item_0 0 rfl rfl)
theorem dX0_item_1 : decode cX0_item 1 = .ok (.istore 5, 2) := dk_54 5 (dk_at dksX0_item_0 1 rfl rfl)
theorem dX0_item_3 : decode cX0_item 3 = .ok (.iload_n 1, 1) := dk_27 (dk_at dksX0_item_0 3 rfl rfl)
theorem dX0_item_4 : decode cX0_item 4 = .ok (.invokestatic 242, 3) := dk_184 0 242 (dk_at dksX0_item_0 4 rfl rfl)
theorem dX0_item_7 : decode cX0_item 7 = .ok (.ifCond .eq 59, 3) := dk_153 0 59 (dk_at dksX0_item_0 7 rfl rfl)
theorem dX0_item_10 : decode cX0_item 10 = .ok (.iload_n 2, 1) := dk_28 (dk_at dksX0_item_0 10 rfl rfl)
theorem dX0_item_11 : decode cX0_item 11 = .ok (.iconst 0, 1) := dk_3 (dk_at dksX0_item_0 11 rfl rfl)
theorem dX0_item_12 : decode cX0_item 12 = .ok (.iconst 3, 1) := dk_6 (dk_at dksX0_item_0 12 rfl rfl)
theorem dX0_item_13 : decode cX0_item 13 = .ok (.invokestatic 101, 3) := dk_184 0 101 (dk_at dksX0_item_0 13 rfl rfl)
theorem dX0_item_16 : decode cX0_item 16 = .ok (.ifCond .eq 50, 3) := dk_153 0 50 (dk_at dksX0_item_0 16 rfl rfl)
theorem dX0_item_19 : decode cX0_item 19 = .ok (.aload_n 0, 1) := dk_42 (dk_at dksX0_item_0 19 rfl rfl)
theorem dX0_item_20 : decode cX0_item 20 = .ok (.getfield 93, 3) := dk_180 0 93 (dk_at dksX0_item_0 20 rfl rfl)
theorem dX0_item_23 : decode cX0_item 23 = .ok (.iload_n 1, 1) := dk_27 (dk_at dksX0_item_0 23 rfl rfl)
theorem dX0_item_24 : decode cX0_item 24 = .ok (.aaload, 1) := dk_50 (dk_at dksX0_item_1 0 rfl rfl)
theorem dX0_item_25 : decode cX0_item 25 = .ok (.iload_n 2, 1) := dk_28 (dk_at dksX0_item_1 1 rfl rfl)
theorem dX0_item_26 : decode cX0_item 26 = .ok (.iload_n 3, 1) := dk_29 (dk_at dksX0_item_1 2 rfl rfl)
theorem dX0_item_27 : decode cX0_item 27 = .ok (.iload 4, 2) := dk_21 4 (dk_at dksX0_item_1 3 rfl rfl)
theorem dX0_item_29 : decode cX0_item 29 = .ok (.invokestatic 283, 3) := dk_184 1 27 (dk_at dksX0_item_1 5 rfl rfl)
theorem dX0_item_32 : decode cX0_item 32 = .ok (.lstore 6, 2) := dk_55 6 (dk_at dksX0_item_1 8 rfl rfl)
theorem dX0_item_34 : decode cX0_item 34 = .ok (.aload_n 0, 1) := dk_42 (dk_at dksX0_item_1 10 rfl rfl)
theorem dX0_item_35 : decode cX0_item 35 = .ok (.iconst 0, 1) := dk_3 (dk_at dksX0_item_1 11 rfl rfl)
theorem dX0_item_36 : decode cX0_item 36 = .ok (.putfield 226, 3) := dk_181 0 226 (dk_at dksX0_item_1 12 rfl rfl)
theorem dX0_item_39 : decode cX0_item 39 = .ok (.lload 6, 2) := dk_22 6 (dk_at dksX0_item_1 15 rfl rfl)
theorem dX0_item_41 : decode cX0_item 41 = .ok (.lreturn, 1) := dk_173 (dk_at dksX0_item_1 17 rfl rfl)
theorem dX0_item_42 : decode cX0_item 42 = .ok (.astore 6, 2) := dk_58 6 (dk_at dksX0_item_1 18 rfl rfl)
theorem dX0_item_44 : decode cX0_item 44 = .ok (.bipush (-11), 2) := dk_16 245 (dk_at dksX0_item_1 20 rfl rfl)
theorem dX0_item_46 : decode cX0_item 46 = .ok (.istore 5, 2) := dk_54 5 (dk_at dksX0_item_1 22 rfl rfl)
theorem dX0_item_48 : decode cX0_item 48 = .ok (.goto 18, 3) := dk_167 0 18 (dk_at dksX0_item_2 0 rfl rfl)
theorem dX0_item_51 : decode cX0_item 51 = .ok (.astore 6, 2) := dk_58 6 (dk_at dksX0_item_2 3 rfl rfl)
theorem dX0_item_53 : decode cX0_item 53 = .ok (.bipush (-13), 2) := dk_16 243 (dk_at dksX0_item_2 5 rfl rfl)
theorem dX0_item_55 : decode cX0_item 55 = .ok (.istore 5, 2) := dk_54 5 (dk_at dksX0_item_2 7 rfl rfl)
theorem dX0_item_57 : decode cX0_item 57 = .ok (.goto 9, 3) := dk_167 0 9 (dk_at dksX0_item_2 9 rfl rfl)
theorem dX0_item_60 : decode cX0_item 60 = .ok (.astore 6, 2) := dk_58 6 (dk_at dksX0_item_2 12 rfl rfl)
theorem dX0_item_62 : decode cX0_item 62 = .ok (.bipush (-12), 2) := dk_16 244 (dk_at dksX0_item_2 14 rfl rfl)
theorem dX0_item_64 : decode cX0_item 64 = .ok (.istore 5, 2) := dk_54 5 (dk_at dksX0_item_2 16 rfl rfl)
theorem dX0_item_66 : decode cX0_item 66 = .ok (.aload_n 0, 1) := dk_42 (dk_at dksX0_item_2 18 rfl rfl)
theorem dX0_item_67 : decode cX0_item 67 = .ok (.iload 5, 2) := dk_21 5 (dk_at dksX0_item_2 19 rfl rfl)
theorem dX0_item_69 : decode cX0_item 69 = .ok (.putfield 226, 3) := dk_181 0 226 (dk_at dksX0_item_2 21 rfl rfl)
theorem dX0_item_72 : decode cX0_item 72 = .ok (.lconst 0, 1) := dk_9 (dk_at dksX0_item_3 0 rfl rfl)
theorem dX0_item_73 : decode cX0_item 73 = .ok (.lreturn, 1) := dk_173 (dk_at dksX0_item_3 1 rfl rfl)
abbrev cX0_itemOf : ByteArray := prog_1_method_50_code
def yX0_itemOf : MethodName := ⟨RX0, "itemOf", "(LLadderCalls$Book;III)J"⟩
def dkwX0_itemOf_4 : List UInt8 := [29, 47, 173]
abbrev dktX0_itemOf_4 : List UInt8 := dkwX0_itemOf_4 ++ []
def dkwX0_itemOf_3 : List UInt8 := [133, 173, 42, 192, 0, 236, 180, 1, 16, 28, 50, 29, 46, 133, 173, 42, 192, 0, 239, 180, 1, 18, 28, 50]
abbrev dktX0_itemOf_3 : List UInt8 := dkwX0_itemOf_3 ++ dktX0_itemOf_4
def dkwX0_itemOf_2 : List UInt8 := [42, 192, 0, 229, 180, 1, 9, 28, 50, 29, 51, 133, 173, 42, 192, 0, 233, 180, 1, 13, 28, 50, 29, 53]
abbrev dktX0_itemOf_2 : List UInt8 := dkwX0_itemOf_2 ++ dktX0_itemOf_3
def dkwX0_itemOf_1 : List UInt8 := [170, 0, 0, 0, 0, 0, 66, 0, 0, 0, 0, 0, 0, 0, 2, 0, 0, 0, 27, 0, 0, 0, 40, 0, 0, 0, 53]
abbrev dktX0_itemOf_1 : List UInt8 := dkwX0_itemOf_1 ++ dktX0_itemOf_2
def dkwX0_itemOf_0 : List UInt8 := [27]
abbrev dktX0_itemOf_0 : List UInt8 := dkwX0_itemOf_0 ++ dktX0_itemOf_1
theorem dksX0_itemOf_0 : cX0_itemOf.data.toList.drop 0 = dktX0_itemOf_0 := by decide +kernel
theorem dksX0_itemOf_1 : cX0_itemOf.data.toList.drop 1 = dktX0_itemOf_1 := dk_seg dksX0_itemOf_0 1 rfl rfl
theorem dksX0_itemOf_2 : cX0_itemOf.data.toList.drop 28 = dktX0_itemOf_2 := dk_seg dksX0_itemOf_1 27 rfl rfl
theorem dksX0_itemOf_3 : cX0_itemOf.data.toList.drop 52 = dktX0_itemOf_3 := dk_seg dksX0_itemOf_2 24 rfl rfl
theorem dksX0_itemOf_4 : cX0_itemOf.data.toList.drop 76 = dktX0_itemOf_4 := dk_seg dksX0_itemOf_3 24 rfl rfl
theorem dX0_itemOf_0 : decode cX0_itemOf 0 = .ok (.iload_n 1, 1) := dk_27 (dk_at dksX0_itemOf_0 0 rfl rfl)
theorem dX0_itemOf_1 : decode cX0_itemOf 1 = .ok (.tableswitch 66 0 2 #[27, 40, 53], 27) := by decide +kernel
theorem dX0_itemOf_28 : decode cX0_itemOf 28 = .ok (.aload_n 0, 1) := dk_42 (dk_at dksX0_itemOf_2 0 rfl rfl)
theorem dX0_itemOf_29 : decode cX0_itemOf 29 = .ok (.checkcast 229, 3) := dk_192 0 229 (dk_at dksX0_itemOf_2 1 rfl rfl)
theorem dX0_itemOf_32 : decode cX0_itemOf 32 = .ok (.getfield 265, 3) := dk_180 1 9 (dk_at dksX0_itemOf_2 4 rfl rfl)
theorem dX0_itemOf_35 : decode cX0_itemOf 35 = .ok (.iload_n 2, 1) := dk_28 (dk_at dksX0_itemOf_2 7 rfl rfl)
theorem dX0_itemOf_36 : decode cX0_itemOf 36 = .ok (.aaload, 1) := dk_50 (dk_at dksX0_itemOf_2 8 rfl rfl)
theorem dX0_itemOf_37 : decode cX0_itemOf 37 = .ok (.iload_n 3, 1) := dk_29 (dk_at dksX0_itemOf_2 9 rfl rfl)
theorem dX0_itemOf_38 : decode cX0_itemOf 38 = .ok (.baload, 1) := dk_51 (dk_at dksX0_itemOf_2 10 rfl rfl)
theorem dX0_itemOf_39 : decode cX0_itemOf 39 = .ok (.i2l, 1) := dk_133 (dk_at dksX0_itemOf_2 11 rfl rfl)
theorem dX0_itemOf_40 : decode cX0_itemOf 40 = .ok (.lreturn, 1) := dk_173 (dk_at dksX0_itemOf_2 12 rfl rfl)
theorem dX0_itemOf_41 : decode cX0_itemOf 41 = .ok (.aload_n 0, 1) := dk_42 (dk_at dksX0_itemOf_2 13 rfl rfl)
theorem dX0_itemOf_42 : decode cX0_itemOf 42 = .ok (.checkcast 233, 3) := dk_192 0 233 (dk_at dksX0_itemOf_2 14 rfl rfl)
theorem dX0_itemOf_45 : decode cX0_itemOf 45 = .ok (.getfield 269, 3) := dk_180 1 13 (dk_at dksX0_itemOf_2 17 rfl rfl)
theorem dX0_itemOf_48 : decode cX0_itemOf 48 = .ok (.iload_n 2, 1) := dk_28 (dk_at dksX0_itemOf_2 20 rfl rfl)
theorem dX0_itemOf_49 : decode cX0_itemOf 49 = .ok (.aaload, 1) := dk_50 (dk_at dksX0_itemOf_2 21 rfl rfl)
theorem dX0_itemOf_50 : decode cX0_itemOf 50 = .ok (.iload_n 3, 1) := dk_29 (dk_at dksX0_itemOf_2 22 rfl rfl)
theorem dX0_itemOf_51 : decode cX0_itemOf 51 = .ok (.saload, 1) := dk_53 (dk_at dksX0_itemOf_2 23 rfl rfl)
theorem dX0_itemOf_52 : decode cX0_itemOf 52 = .ok (.i2l, 1) := dk_133 (dk_at dksX0_itemOf_3 0 rfl rfl)
theorem dX0_itemOf_53 : decode cX0_itemOf 53 = .ok (.lreturn, 1) := dk_173 (dk_at dksX0_itemOf_3 1 rfl rfl)
theorem dX0_itemOf_54 : decode cX0_itemOf 54 = .ok (.aload_n 0, 1) := dk_42 (dk_at dksX0_itemOf_3 2 rfl rfl)
theorem dX0_itemOf_55 : decode cX0_itemOf 55 = .ok (.checkcast 236, 3) := dk_192 0 236 (dk_at dksX0_itemOf_3 3 rfl rfl)
theorem dX0_itemOf_58 : decode cX0_itemOf 58 = .ok (.getfield 272, 3) := dk_180 1 16 (dk_at dksX0_itemOf_3 6 rfl rfl)
theorem dX0_itemOf_61 : decode cX0_itemOf 61 = .ok (.iload_n 2, 1) := dk_28 (dk_at dksX0_itemOf_3 9 rfl rfl)
theorem dX0_itemOf_62 : decode cX0_itemOf 62 = .ok (.aaload, 1) := dk_50 (dk_at dksX0_itemOf_3 10 rfl rfl)
theorem dX0_itemOf_63 : decode cX0_itemOf 63 = .ok (.iload_n 3, 1) := dk_29 (dk_at dksX0_itemOf_3 11 rfl rfl)
theorem dX0_itemOf_64 : decode cX0_itemOf 64 = .ok (.iaload, 1) := dk_46 (dk_at dksX0_itemOf_3 12 rfl rfl)
theorem dX0_itemOf_65 : decode cX0_itemOf 65 = .ok (.i2l, 1) := dk_133 (dk_at dksX0_itemOf_3 13 rfl rfl)
theorem dX0_itemOf_66 : decode cX0_itemOf 66 = .ok (.lreturn, 1) := dk_173 (dk_at dksX0_itemOf_3 14 rfl rfl)
theorem dX0_itemOf_67 : decode cX0_itemOf 67 = .ok (.aload_n 0, 1) := dk_42 (dk_at dksX0_itemOf_3 15 rfl rfl)
theorem dX0_itemOf_68 : decode cX0_itemOf 68 = .ok (.checkcast 239, 3) := dk_192 0 239 (dk_at dksX0_itemOf_3 16 rfl rfl)
theorem dX0_itemOf_71 : decode cX0_itemOf 71 = .ok (.getfield 274, 3) := dk_180 1 18 (dk_at dksX0_itemOf_3 19 rfl rfl)
theorem dX0_itemOf_74 : decode cX0_itemOf 74 = .ok (.iload_n 2, 1) := dk_28 (dk_at dksX0_itemOf_3 22 rfl rfl)
theorem dX0_itemOf_75 : decode cX0_itemOf 75 = .ok (.aaload, 1) := dk_50 (dk_at dksX0_itemOf_3 23 rfl rfl)
theorem dX0_itemOf_76 : decode cX0_itemOf 76 = .ok (.iload_n 3, 1) := dk_29 (dk_at dksX0_itemOf_4 0 rfl rfl)
theorem dX0_itemOf_77 : decode cX0_itemOf 77 = .ok (.laload, 1) := dk_47 (dk_at dksX0_itemOf_4 1 rfl rfl)
theorem dX0_itemOf_78 : decode cX0_itemOf 78 = .ok (.lreturn, 1) := dk_173 (dk_at dksX0_itemOf_4 2 rfl rfl)
abbrev cX0_roads : ByteArray := prog_1_method_54_code
def yX0_roads : MethodName := ⟨RX0, "roads", "(I)I"⟩
def dkwX0_roads_4 : List UInt8 := [172]
abbrev dktX0_roads_4 : List UInt8 := dkwX0_roads_4 ++ []
def dkwX0_roads_3 : List UInt8 := [167, 255, 218, 167, 0, 20, 78, 42, 16, 245, 181, 0, 226, 167, 0, 10, 78, 42, 16, 244, 181, 0, 226, 28]
abbrev dktX0_roads_3 : List UInt8 := dkwX0_roads_3 ++ dktX0_roads_4
def dkwX0_roads_2 : List UInt8 := [45, 28, 182, 1, 44, 181, 0, 226, 28, 42, 180, 0, 226, 154, 0, 7, 4, 167, 0, 4, 3, 96, 61]
abbrev dktX0_roads_2 : List UInt8 := dkwX0_roads_2 ++ dktX0_roads_3
def dkwX0_roads_1 : List UInt8 := [27, 50, 78, 45, 182, 1, 42, 54, 4, 28, 21, 4, 162, 0, 38, 42, 180, 0, 226, 154, 0, 31, 42, 42]
abbrev dktX0_roads_1 : List UInt8 := dkwX0_roads_1 ++ dktX0_roads_2
def dkwX0_roads_0 : List UInt8 := [27, 184, 0, 242, 154, 0, 9, 42, 2, 182, 0, 245, 172, 3, 61, 42, 3, 181, 0, 226, 42, 180, 0, 93]
abbrev dktX0_roads_0 : List UInt8 := dkwX0_roads_0 ++ dktX0_roads_1
theorem dksX0_roads_0 : cX0_roads.data.toList.drop 0 = dktX0_roads_0 := by decide +kernel
theorem dksX0_roads_1 : cX0_roads.data.toList.drop 24 = dktX0_roads_1 := dk_seg dksX0_roads_0 24 rfl rfl
theorem dksX0_roads_2 : cX0_roads.data.toList.drop 48 = dktX0_roads_2 := dk_seg dksX0_roads_1 24 rfl rfl
theorem dksX0_roads_3 : cX0_roads.data.toList.drop 71 = dktX0_roads_3 := dk_seg dksX0_roads_2 23 rfl rfl
theorem dksX0_roads_4 : cX0_roads.data.toList.drop 95 = dktX0_roads_4 := dk_seg dksX0_roads_3 24 rfl rfl
theorem dX0_roads_0 : decode cX0_roads 0 = .ok (.iload_n 1, 1) := dk_27 (dk_at dksX0_roads_0 0 rfl rfl)
theorem dX0_roads_1 : decode cX0_roads 1 = .ok (.invokestatic 242, 3) := dk_184 0 242 (dk_at dksX0_roads_0 1 rfl rfl)
theorem dX0_roads_4 : decode cX0_roads 4 = .ok (.ifCond .ne 9, 3) := dk_154 0 9 (dk_at dksX0_roads_0 4 rfl rfl)
theorem dX0_roads_7 : decode cX0_roads 7 = .ok (.aload_n 0, 1) := dk_42 (dk_at dksX0_roads_0 7 rfl rfl)
theorem dX0_roads_8 : decode cX0_roads 8 = .ok (.iconst (-1), 1) := dk_2 (dk_at dksX0_roads_0 8 rfl rfl)
theorem dX0_roads_9 : decode cX0_roads 9 = .ok (.invokevirtual 245, 3) := dk_182 0 245 (dk_at dksX0_roads_0 9 rfl rfl)
theorem dX0_roads_12 : decode cX0_roads 12 = .ok (.ireturn, 1) := dk_172 (dk_at dksX0_roads_0 12 rfl rfl)
theorem dX0_roads_13 : decode cX0_roads 13 = .ok (.iconst 0, 1) := dk_3 (dk_at dksX0_roads_0 13 rfl rfl)
theorem dX0_roads_14 : decode cX0_roads 14 = .ok (.istore_n 2, 1) := dk_61 (dk_at dksX0_roads_0 14 rfl rfl)
theorem dX0_roads_15 : decode cX0_roads 15 = .ok (.aload_n 0, 1) := dk_42 (dk_at dksX0_roads_0 15 rfl rfl)
theorem dX0_roads_16 : decode cX0_roads 16 = .ok (.iconst 0, 1) := dk_3 (dk_at dksX0_roads_0 16 rfl rfl)
theorem dX0_roads_17 : decode cX0_roads 17 = .ok (.putfield 226, 3) := dk_181 0 226 (dk_at dksX0_roads_0 17 rfl rfl)
theorem dX0_roads_20 : decode cX0_roads 20 = .ok (.aload_n 0, 1) := dk_42 (dk_at dksX0_roads_0 20 rfl rfl)
theorem dX0_roads_21 : decode cX0_roads 21 = .ok (.getfield 93, 3) := dk_180 0 93 (dk_at dksX0_roads_0 21 rfl rfl)
theorem dX0_roads_24 : decode cX0_roads 24 = .ok (.iload_n 1, 1) := dk_27 (dk_at dksX0_roads_1 0 rfl rfl)
theorem dX0_roads_25 : decode cX0_roads 25 = .ok (.aaload, 1) := dk_50 (dk_at dksX0_roads_1 1 rfl rfl)
theorem dX0_roads_26 : decode cX0_roads 26 = .ok (.astore_n 3, 1) := dk_78 (dk_at dksX0_roads_1 2 rfl rfl)
theorem dX0_roads_27 : decode cX0_roads 27 = .ok (.aload_n 3, 1) := dk_45 (dk_at dksX0_roads_1 3 rfl rfl)
theorem dX0_roads_28 : decode cX0_roads 28 = .ok (.invokevirtual 298, 3) := dk_182 1 42 (dk_at dksX0_roads_1 4 rfl rfl)
theorem dX0_roads_31 : decode cX0_roads 31 = .ok (.istore 4, 2) := dk_54 4 (dk_at dksX0_roads_1 7 rfl rfl)
theorem dX0_roads_33 : decode cX0_roads 33 = .ok (.iload_n 2, 1) := dk_28 (dk_at dksX0_roads_1 9 rfl rfl)
theorem dX0_roads_34 : decode cX0_roads 34 = .ok (.iload 4, 2) := dk_21 4 (dk_at dksX0_roads_1 10 rfl rfl)
theorem dX0_roads_36 : decode cX0_roads 36 = .ok (.if_icmp .ge 38, 3) := dk_162 0 38 (dk_at dksX0_roads_1 12 rfl rfl)
theorem dX0_roads_39 : decode cX0_roads 39 = .ok (.aload_n 0, 1) := dk_42 (dk_at dksX0_roads_1 15 rfl rfl)
theorem dX0_roads_40 : decode cX0_roads 40 = .ok (.getfield 226, 3) := dk_180 0 226 (dk_at dksX0_roads_1 16 rfl rfl)
theorem dX0_roads_43 : decode cX0_roads 43 = .ok (.ifCond .ne 31, 3) := dk_154 0 31 (dk_at dksX0_roads_1 19 rfl rfl)
theorem dX0_roads_46 : decode cX0_roads 46 = .ok (.aload_n 0, 1) := dk_42 (dk_at dksX0_roads_1 22 rfl rfl)
theorem dX0_roads_47 : decode cX0_roads 47 = .ok (.aload_n 0, 1) := dk_42 (dk_at dksX0_roads_1 23 rfl rfl)
theorem dX0_roads_48 : decode cX0_roads 48 = .ok (.aload_n 3, 1) := dk_45 (dk_at dksX0_roads_2 0 rfl rfl)
theorem dX0_roads_49 : decode cX0_roads 49 = .ok (.iload_n 2, 1) := dk_28 (dk_at dksX0_roads_2 1 rfl rfl)
theorem dX0_roads_50 : decode cX0_roads 50 = .ok (.invokevirtual 300, 3) := dk_182 1 44 (dk_at dksX0_roads_2 2 rfl rfl)
theorem dX0_roads_53 : decode cX0_roads 53 = .ok (.putfield 226, 3) := dk_181 0 226 (dk_at dksX0_roads_2 5 rfl rfl)
theorem dX0_roads_56 : decode cX0_roads 56 = .ok (.iload_n 2, 1) := dk_28 (dk_at dksX0_roads_2 8 rfl rfl)
theorem dX0_roads_57 : decode cX0_roads 57 = .ok (.aload_n 0, 1) := dk_42 (dk_at dksX0_roads_2 9 rfl rfl)
theorem dX0_roads_58 : decode cX0_roads 58 = .ok (.getfield 226, 3) := dk_180 0 226 (dk_at dksX0_roads_2 10 rfl rfl)
theorem dX0_roads_61 : decode cX0_roads 61 = .ok (.ifCond .ne 7, 3) := dk_154 0 7 (dk_at dksX0_roads_2 13 rfl rfl)
theorem dX0_roads_64 : decode cX0_roads 64 = .ok (.iconst 1, 1) := dk_4 (dk_at dksX0_roads_2 16 rfl rfl)
theorem dX0_roads_65 : decode cX0_roads 65 = .ok (.goto 4, 3) := dk_167 0 4 (dk_at dksX0_roads_2 17 rfl rfl)
theorem dX0_roads_68 : decode cX0_roads 68 = .ok (.iconst 0, 1) := dk_3 (dk_at dksX0_roads_2 20 rfl rfl)
theorem dX0_roads_69 : decode cX0_roads 69 = .ok (.iadd, 1) := dk_96 (dk_at dksX0_roads_2 21 rfl rfl)
theorem dX0_roads_70 : decode cX0_roads 70 = .ok (.istore_n 2, 1) := dk_61 (dk_at dksX0_roads_2 22 rfl rfl)
theorem dX0_roads_71 : decode cX0_roads 71 = .ok (.goto (-38), 3) := dk_167 255 218 (dk_at dksX0_roads_3 0 rfl rfl)
theorem dX0_roads_74 : decode cX0_roads 74 = .ok (.goto 20, 3) := dk_167 0 20 (dk_at dksX0_roads_3 3 rfl rfl)
theorem dX0_roads_77 : decode cX0_roads 77 = .ok (.astore_n 3, 1) := dk_78 (dk_at dksX0_roads_3 6 rfl rfl)
theorem dX0_roads_78 : decode cX0_roads 78 = .ok (.aload_n 0, 1) := dk_42 (dk_at dksX0_roads_3 7 rfl rfl)
theorem dX0_roads_79 : decode cX0_roads 79 = .ok (.bipush (-11), 2) := dk_16 245 (dk_at dksX0_roads_3 8 rfl rfl)
theorem dX0_roads_81 : decode cX0_roads 81 = .ok (.putfield 226, 3) := dk_181 0 226 (dk_at dksX0_roads_3 10 rfl rfl)
theorem dX0_roads_84 : decode cX0_roads 84 = .ok (.goto 10, 3) := dk_167 0 10 (dk_at dksX0_roads_3 13 rfl rfl)
theorem dX0_roads_87 : decode cX0_roads 87 = .ok (.astore_n 3, 1) := dk_78 (dk_at dksX0_roads_3 16 rfl rfl)
theorem dX0_roads_88 : decode cX0_roads 88 = .ok (.aload_n 0, 1) := dk_42 (dk_at dksX0_roads_3 17 rfl rfl)
theorem dX0_roads_89 : decode cX0_roads 89 = .ok (.bipush (-12), 2) := dk_16 244 (dk_at dksX0_roads_3 18 rfl rfl)
theorem dX0_roads_91 : decode cX0_roads 91 = .ok (.putfield 226, 3) := dk_181 0 226 (dk_at dksX0_roads_3 20 rfl rfl)
theorem dX0_roads_94 : decode cX0_roads 94 = .ok (.iload_n 2, 1) := dk_28 (dk_at dksX0_roads_3 23 rfl rfl)
theorem dX0_roads_95 : decode cX0_roads 95 = .ok (.ireturn, 1) := dk_172 (dk_at dksX0_roads_4 0 rfl rfl)
abbrev cX0_roadFrom : ByteArray := prog_1_method_53_code
def yX0_roadFrom : MethodName := ⟨RX0, "roadFrom", "(LLadderCalls$Book;I)I"⟩
def dkwX0_roadFrom_2 : List UInt8 := [42, 33, 136, 22, 5, 136, 22, 7, 136, 182, 1, 39, 54, 9, 21, 9, 3, 184, 0, 109, 172]
abbrev dktX0_roadFrom_2 : List UInt8 := dkwX0_roadFrom_2 ++ []
def dkwX0_roadFrom_1 : List UInt8 := [184, 1, 35, 153, 0, 19, 22, 5, 184, 1, 35, 153, 0, 11, 22, 7, 184, 1, 35, 154, 0, 5, 2, 172]
abbrev dktX0_roadFrom_1 : List UInt8 := dkwX0_roadFrom_1 ++ dktX0_roadFrom_2
def dkwX0_roadFrom_0 : List UInt8 := [43, 28, 3, 182, 1, 31, 66, 43, 28, 4, 182, 1, 31, 55, 5, 43, 28, 5, 182, 1, 31, 55, 7, 33]
abbrev dktX0_roadFrom_0 : List UInt8 := dkwX0_roadFrom_0 ++ dktX0_roadFrom_1
theorem dksX0_roadFrom_0 : cX0_roadFrom.data.toList.drop 0 = dktX0_roadFrom_0 := by decide +kernel
theorem dksX0_roadFrom_1 : cX0_roadFrom.data.toList.drop 24 = dktX0_roadFrom_1 := dk_seg dksX0_roadFrom_0 24 rfl rfl
theorem dksX0_roadFrom_2 : cX0_roadFrom.data.toList.drop 48 = dktX0_roadFrom_2 := dk_seg dksX0_roadFrom_1 24 rfl rfl
theorem dX0_roadFrom_0 : decode cX0_roadFrom 0 = .ok (.aload_n 1, 1) := dk_43 (dk_at dksX0_roadFrom_0 0 rfl rfl)
theorem dX0_roadFrom_1 : decode cX0_roadFrom 1 = .ok (.iload_n 2, 1) := dk_28 (dk_at dksX0_roadFrom_0 1 rfl rfl)
theorem dX0_roadFrom_2 : decode cX0_roadFrom 2 = .ok (.iconst 0, 1) := dk_3 (dk_at dksX0_roadFrom_0 2 rfl rfl)
theorem dX0_roadFrom_3 : decode cX0_roadFrom 3 = .ok (.invokevirtual 287, 3) := dk_182 1 31 (dk_at dksX0_roadFrom_0 3 rfl rfl)
theorem dX0_roadFrom_6 : decode cX0_roadFrom 6 = .ok (.lstore_n 3, 1) := dk_66 (dk_at dksX0_roadFrom_0 6 rfl rfl)
theorem dX0_roadFrom_7 : decode cX0_roadFrom 7 = .ok (.aload_n 1, 1) := dk_43 (dk_at dksX0_roadFrom_0 7 rfl rfl)
theorem dX0_roadFrom_8 : decode cX0_roadFrom 8 = .ok (.iload_n 2, 1) := dk_28 (dk_at dksX0_roadFrom_0 8 rfl rfl)
theorem dX0_roadFrom_9 : decode cX0_roadFrom 9 = .ok (.iconst 1, 1) := dk_4 (dk_at dksX0_roadFrom_0 9 rfl rfl)
theorem dX0_roadFrom_10 : decode cX0_roadFrom 10 = .ok (.invokevirtual 287, 3) := dk_182 1 31 (dk_at dksX0_roadFrom_0 10 rfl rfl)
theorem dX0_roadFrom_13 : decode cX0_roadFrom 13 = .ok (.lstore 5, 2) := dk_55 5 (dk_at dksX0_roadFrom_0 13 rfl rfl)
theorem dX0_roadFrom_15 : decode cX0_roadFrom 15 = .ok (.aload_n 1, 1) := dk_43 (dk_at dksX0_roadFrom_0 15 rfl rfl)
theorem dX0_roadFrom_16 : decode cX0_roadFrom 16 = .ok (.iload_n 2, 1) := dk_28 (dk_at dksX0_roadFrom_0 16 rfl rfl)
theorem dX0_roadFrom_17 : decode cX0_roadFrom 17 = .ok (.iconst 2, 1) := dk_5 (dk_at dksX0_roadFrom_0 17 rfl rfl)
theorem dX0_roadFrom_18 : decode cX0_roadFrom 18 = .ok (.invokevirtual 287, 3) := dk_182 1 31 (dk_at dksX0_roadFrom_0 18 rfl rfl)
theorem dX0_roadFrom_21 : decode cX0_roadFrom 21 = .ok (.lstore 7, 2) := dk_55 7 (dk_at dksX0_roadFrom_0 21 rfl rfl)
theorem dX0_roadFrom_23 : decode cX0_roadFrom 23 = .ok (.lload_n 3, 1) := dk_33 (dk_at dksX0_roadFrom_0 23 rfl rfl)
theorem dX0_roadFrom_24 : decode cX0_roadFrom 24 = .ok (.invokestatic 291, 3) := dk_184 1 35 (dk_at dksX0_roadFrom_1 0 rfl rfl)
theorem dX0_roadFrom_27 : decode cX0_roadFrom 27 = .ok (.ifCond .eq 19, 3) := dk_153 0 19 (dk_at dksX0_roadFrom_1 3 rfl rfl)
theorem dX0_roadFrom_30 : decode cX0_roadFrom 30 = .ok (.lload 5, 2) := dk_22 5 (dk_at dksX0_roadFrom_1 6 rfl rfl)
theorem dX0_roadFrom_32 : decode cX0_roadFrom 32 = .ok (.invokestatic 291, 3) := dk_184 1 35 (dk_at dksX0_roadFrom_1 8 rfl rfl)
theorem dX0_roadFrom_35 : decode cX0_roadFrom 35 = .ok (.ifCond .eq 11, 3) := dk_153 0 11 (dk_at dksX0_roadFrom_1 11 rfl rfl)
theorem dX0_roadFrom_38 : decode cX0_roadFrom 38 = .ok (.lload 7, 2) := dk_22 7 (dk_at dksX0_roadFrom_1 14 rfl rfl)
theorem dX0_roadFrom_40 : decode cX0_roadFrom 40 = .ok (.invokestatic 291, 3) := dk_184 1 35 (dk_at dksX0_roadFrom_1 16 rfl rfl)
theorem dX0_roadFrom_43 : decode cX0_roadFrom 43 = .ok (.ifCond .ne 5, 3) := dk_154 0 5 (dk_at dksX0_roadFrom_1 19 rfl rfl)
theorem dX0_roadFrom_46 : decode cX0_roadFrom 46 = .ok (.iconst (-1), 1) := dk_2 (dk_at dksX0_roadFrom_1 22 rfl rfl)
theorem dX0_roadFrom_47 : decode cX0_roadFrom 47 = .ok (.ireturn, 1) := dk_172 (dk_at dksX0_roadFrom_1 23 rfl rfl)
theorem dX0_roadFrom_48 : decode cX0_roadFrom 48 = .ok (.aload_n 0, 1) := dk_42 (dk_at dksX0_roadFrom_2 0 rfl rfl)
theorem dX0_roadFrom_49 : decode cX0_roadFrom 49 = .ok (.lload_n 3, 1) := dk_33 (dk_at dksX0_roadFrom_2 1 rfl rfl)
theorem dX0_roadFrom_50 : decode cX0_roadFrom 50 = .ok (.l2i, 1) := dk_136 (dk_at dksX0_roadFrom_2 2 rfl rfl)
theorem dX0_roadFrom_51 : decode cX0_roadFrom 51 = .ok (.lload 5, 2) := dk_22 5 (dk_at dksX0_roadFrom_2 3 rfl rfl)
theorem dX0_roadFrom_53 : decode cX0_roadFrom 53 = .ok (.l2i, 1) := dk_136 (dk_at dksX0_roadFrom_2 5 rfl rfl)
theorem dX0_roadFrom_54 : decode cX0_roadFrom 54 = .ok (.lload 7, 2) := dk_22 7 (dk_at dksX0_roadFrom_2 6 rfl rfl)
theorem dX0_roadFrom_56 : decode cX0_roadFrom 56 = .ok (.l2i, 1) := dk_136 (dk_at dksX0_roadFrom_2 8 rfl rfl)
theorem dX0_roadFrom_57 : decode cX0_roadFrom 57 = .ok (.invokevirtual 295, 3) := dk_182 1 39 (dk_at dksX0_roadFrom_2 9 rfl rfl)
theorem dX0_roadFrom_60 : decode cX0_roadFrom 60 = .ok (.istore 9, 2) := dk_54 9 (dk_at dksX0_roadFrom_2 12 rfl rfl)
theorem dX0_roadFrom_62 : decode cX0_roadFrom 62 = .ok (.iload 9, 2) := dk_21 9 (dk_at dksX0_roadFrom_2 14 rfl rfl)
theorem dX0_roadFrom_64 : decode cX0_roadFrom 64 = .ok (.iconst 0, 1) := dk_3 (dk_at dksX0_roadFrom_2 16 rfl rfl)
theorem dX0_roadFrom_65 : decode cX0_roadFrom 65 = .ok (.invokestatic 109, 3) := dk_184 0 109 (dk_at dksX0_roadFrom_2 17 rfl rfl)
theorem dX0_roadFrom_68 : decode cX0_roadFrom 68 = .ok (.ireturn, 1) := dk_172 (dk_at dksX0_roadFrom_2 20 rfl rfl)
abbrev cX0_isInt : ByteArray := prog_1_method_52_code
def yX0_isInt : MethodName := ⟨RX0, "isInt", "(J)Z"⟩
def dkwX0_isInt_0 : List UInt8 := [30, 30, 136, 133, 148, 154, 0, 7, 4, 167, 0, 4, 3, 172]
abbrev dktX0_isInt_0 : List UInt8 := dkwX0_isInt_0 ++ []
theorem dksX0_isInt_0 : cX0_isInt.data.toList.drop 0 = dktX0_isInt_0 := by decide +kernel
theorem dX0_isInt_0 : decode cX0_isInt 0 = .ok (.lload_n 0, 1) := dk_30 (dk_at dksX0_isInt_0 0 rfl rfl)
theorem dX0_isInt_1 : decode cX0_isInt 1 = .ok (.lload_n 0, 1) := dk_30 (dk_at dksX0_isInt_0 1 rfl rfl)
theorem dX0_isInt_2 : decode cX0_isInt 2 = .ok (.l2i, 1) := dk_136 (dk_at dksX0_isInt_0 2 rfl rfl)
theorem dX0_isInt_3 : decode cX0_isInt 3 = .ok (.i2l, 1) := dk_133 (dk_at dksX0_isInt_0 3 rfl rfl)
theorem dX0_isInt_4 : decode cX0_isInt 4 = .ok (.lcmp, 1) := dk_148 (dk_at dksX0_isInt_0 4 rfl rfl)
theorem dX0_isInt_5 : decode cX0_isInt 5 = .ok (.ifCond .ne 7, 3) := dk_154 0 7 (dk_at dksX0_isInt_0 5 rfl rfl)
theorem dX0_isInt_8 : decode cX0_isInt 8 = .ok (.iconst 1, 1) := dk_4 (dk_at dksX0_isInt_0 8 rfl rfl)
theorem dX0_isInt_9 : decode cX0_isInt 9 = .ok (.goto 4, 3) := dk_167 0 4 (dk_at dksX0_isInt_0 9 rfl rfl)
theorem dX0_isInt_12 : decode cX0_isInt 12 = .ok (.iconst 0, 1) := dk_3 (dk_at dksX0_isInt_0 12 rfl rfl)
theorem dX0_isInt_13 : decode cX0_isInt 13 = .ok (.ireturn, 1) := dk_172 (dk_at dksX0_isInt_0 13 rfl rfl)
abbrev cX0_calls : ByteArray := prog_1_method_55_code
def yX0_calls : MethodName := ⟨RX0, "calls", "(II)I"⟩
def dkwX0_calls_5 : List UInt8 := [167, 0, 11, 58, 4, 42, 16, 244, 181, 0, 226, 29, 172]
abbrev dktX0_calls_5 : List UInt8 := dkwX0_calls_5 ++ []
def dkwX0_calls_4 : List UInt8 := [182, 0, 197, 54, 8, 132, 3, 1, 167, 255, 192, 167, 0, 22, 58, 4, 42, 16, 245, 181, 0, 226]
abbrev dktX0_calls_4 : List UInt8 := dkwX0_calls_4 ++ dktX0_calls_5
def dkwX0_calls_3 : List UInt8 := [136, 182, 0, 194, 167, 0, 4, 2, 181, 0, 226, 42, 180, 0, 226, 154, 0, 15, 42, 22, 6, 136]
abbrev dktX0_calls_3 : List UInt8 := dkwX0_calls_3 ++ dktX0_calls_4
def dkwX0_calls_2 : List UInt8 := [154, 0, 57, 25, 4, 28, 29, 182, 1, 31, 55, 6, 42, 22, 6, 184, 1, 35, 153, 0, 13, 42, 22, 6]
abbrev dktX0_calls_2 : List UInt8 := dkwX0_calls_2 ++ dktX0_calls_3
def dkwX0_calls_1 : List UInt8 := [27, 50, 58, 4, 25, 4, 28, 182, 1, 48, 54, 5, 29, 21, 5, 162, 0, 64, 42, 180, 0, 226]
abbrev dktX0_calls_1 : List UInt8 := dkwX0_calls_1 ++ dktX0_calls_2
def dkwX0_calls_0 : List UInt8 := [27, 184, 0, 242, 154, 0, 9, 42, 2, 182, 0, 245, 172, 3, 62, 42, 3, 181, 0, 226, 42, 180, 0, 93]
abbrev dktX0_calls_0 : List UInt8 := dkwX0_calls_0 ++ dktX0_calls_1
theorem dksX0_calls_0 : cX0_calls.data.toList.drop 0 = dktX0_calls_0 := by decide +kernel
theorem dksX0_calls_1 : cX0_calls.data.toList.drop 24 = dktX0_calls_1 := dk_seg dksX0_calls_0 24 rfl rfl
theorem dksX0_calls_2 : cX0_calls.data.toList.drop 46 = dktX0_calls_2 := dk_seg dksX0_calls_1 22 rfl rfl
theorem dksX0_calls_3 : cX0_calls.data.toList.drop 70 = dktX0_calls_3 := dk_seg dksX0_calls_2 24 rfl rfl
theorem dksX0_calls_4 : cX0_calls.data.toList.drop 92 = dktX0_calls_4 := dk_seg dksX0_calls_3 22 rfl rfl
theorem dksX0_calls_5 : cX0_calls.data.toList.drop 114 = dktX0_calls_5 := dk_seg dksX0_calls_4 22 rfl rfl
theorem dX0_calls_0 : decode cX0_calls 0 = .ok (.iload_n 1, 1) := dk_27 (dk_at dksX0_calls_0 0 rfl rfl)
theorem dX0_calls_1 : decode cX0_calls 1 = .ok (.invokestatic 242, 3) := dk_184 0 242 (dk_at dksX0_calls_0 1 rfl rfl)
theorem dX0_calls_4 : decode cX0_calls 4 = .ok (.ifCond .ne 9, 3) := dk_154 0 9 (dk_at dksX0_calls_0 4 rfl rfl)
theorem dX0_calls_7 : decode cX0_calls 7 = .ok (.aload_n 0, 1) := dk_42 (dk_at dksX0_calls_0 7 rfl rfl)
theorem dX0_calls_8 : decode cX0_calls 8 = .ok (.iconst (-1), 1) := dk_2 (dk_at dksX0_calls_0 8 rfl rfl)
theorem dX0_calls_9 : decode cX0_calls 9 = .ok (.invokevirtual 245, 3) := dk_182 0 245 (dk_at dksX0_calls_0 9 rfl rfl)
theorem dX0_calls_12 : decode cX0_calls 12 = .ok (.ireturn, 1) := dk_172 (dk_at dksX0_calls_0 12 rfl rfl)
theorem dX0_calls_13 : decode cX0_calls 13 = .ok (.iconst 0, 1) := dk_3 (dk_at dksX0_calls_0 13 rfl rfl)
theorem dX0_calls_14 : decode cX0_calls 14 = .ok (.istore_n 3, 1) := dk_62 (dk_at dksX0_calls_0 14 rfl rfl)
theorem dX0_calls_15 : decode cX0_calls 15 = .ok (.aload_n 0, 1) := dk_42 (dk_at dksX0_calls_0 15 rfl rfl)
theorem dX0_calls_16 : decode cX0_calls 16 = .ok (.iconst 0, 1) := dk_3 (dk_at dksX0_calls_0 16 rfl rfl)
theorem dX0_calls_17 : decode cX0_calls 17 = .ok (.putfield 226, 3) := dk_181 0 226 (dk_at dksX0_calls_0 17 rfl rfl)
theorem dX0_calls_20 : decode cX0_calls 20 = .ok (.aload_n 0, 1) := dk_42 (dk_at dksX0_calls_0 20 rfl rfl)
theorem dX0_calls_21 : decode cX0_calls 21 = .ok (.getfield 93, 3) := dk_180 0 93 (dk_at dksX0_calls_0 21 rfl rfl)
theorem dX0_calls_24 : decode cX0_calls 24 = .ok (.iload_n 1, 1) := dk_27 (dk_at dksX0_calls_1 0 rfl rfl)
theorem dX0_calls_25 : decode cX0_calls 25 = .ok (.aaload, 1) := dk_50 (dk_at dksX0_calls_1 1 rfl rfl)
theorem dX0_calls_26 : decode cX0_calls 26 = .ok (.astore 4, 2) := dk_58 4 (dk_at dksX0_calls_1 2 rfl rfl)
theorem dX0_calls_28 : decode cX0_calls 28 = .ok (.aload 4, 2) := dk_25 4 (dk_at dksX0_calls_1 4 rfl rfl)
theorem dX0_calls_30 : decode cX0_calls 30 = .ok (.iload_n 2, 1) := dk_28 (dk_at dksX0_calls_1 6 rfl rfl)
theorem dX0_calls_31 : decode cX0_calls 31 = .ok (.invokevirtual 304, 3) := dk_182 1 48 (dk_at dksX0_calls_1 7 rfl rfl)
theorem dX0_calls_34 : decode cX0_calls 34 = .ok (.istore 5, 2) := dk_54 5 (dk_at dksX0_calls_1 10 rfl rfl)
theorem dX0_calls_36 : decode cX0_calls 36 = .ok (.iload_n 3, 1) := dk_29 (dk_at dksX0_calls_1 12 rfl rfl)
theorem dX0_calls_37 : decode cX0_calls 37 = .ok (.iload 5, 2) := dk_21 5 (dk_at dksX0_calls_1 13 rfl rfl)
theorem dX0_calls_39 : decode cX0_calls 39 = .ok (.if_icmp .ge 64, 3) := dk_162 0 64 (dk_at dksX0_calls_1 15 rfl rfl)
theorem dX0_calls_42 : decode cX0_calls 42 = .ok (.aload_n 0, 1) := dk_42 (dk_at dksX0_calls_1 18 rfl rfl)
theorem dX0_calls_43 : decode cX0_calls 43 = .ok (.getfield 226, 3) := dk_180 0 226 (dk_at dksX0_calls_1 19 rfl rfl)
theorem dX0_calls_46 : decode cX0_calls 46 = .ok (.ifCond .ne 57, 3) := dk_154 0 57 (dk_at dksX0_calls_2 0 rfl rfl)
theorem dX0_calls_49 : decode cX0_calls 49 = .ok (.aload 4, 2) := dk_25 4 (dk_at dksX0_calls_2 3 rfl rfl)
theorem dX0_calls_51 : decode cX0_calls 51 = .ok (.iload_n 2, 1) := dk_28 (dk_at dksX0_calls_2 5 rfl rfl)
theorem dX0_calls_52 : decode cX0_calls 52 = .ok (.iload_n 3, 1) := dk_29 (dk_at dksX0_calls_2 6 rfl rfl)
theorem dX0_calls_53 : decode cX0_calls 53 = .ok (.invokevirtual 287, 3) := dk_182 1 31 (dk_at dksX0_calls_2 7 rfl rfl)
theorem dX0_calls_56 : decode cX0_calls 56 = .ok (.lstore 6, 2) := dk_55 6 (dk_at dksX0_calls_2 10 rfl rfl)
theorem dX0_calls_58 : decode cX0_calls 58 = .ok (.aload_n 0, 1) := dk_42 (dk_at dksX0_calls_2 12 rfl rfl)
theorem dX0_calls_59 : decode cX0_calls 59 = .ok (.lload 6, 2) := dk_22 6 (dk_at dksX0_calls_2 13 rfl rfl)
theorem dX0_calls_61 : decode cX0_calls 61 = .ok (.invokestatic 291, 3) := dk_184 1 35 (dk_at dksX0_calls_2 15 rfl rfl)
theorem dX0_calls_64 : decode cX0_calls 64 = .ok (.ifCond .eq 13, 3) := dk_153 0 13 (dk_at dksX0_calls_2 18 rfl rfl)
theorem dX0_calls_67 : decode cX0_calls 67 = .ok (.aload_n 0, 1) := dk_42 (dk_at dksX0_calls_2 21 rfl rfl)
theorem dX0_calls_68 : decode cX0_calls 68 = .ok (.lload 6, 2) := dk_22 6 (dk_at dksX0_calls_2 22 rfl rfl)
theorem dX0_calls_70 : decode cX0_calls 70 = .ok (.l2i, 1) := dk_136 (dk_at dksX0_calls_3 0 rfl rfl)
theorem dX0_calls_71 : decode cX0_calls 71 = .ok (.invokevirtual 194, 3) := dk_182 0 194 (dk_at dksX0_calls_3 1 rfl rfl)
theorem dX0_calls_74 : decode cX0_calls 74 = .ok (.goto 4, 3) := dk_167 0 4 (dk_at dksX0_calls_3 4 rfl rfl)
theorem dX0_calls_77 : decode cX0_calls 77 = .ok (.iconst (-1), 1) := dk_2 (dk_at dksX0_calls_3 7 rfl rfl)
theorem dX0_calls_78 : decode cX0_calls 78 = .ok (.putfield 226, 3) := dk_181 0 226 (dk_at dksX0_calls_3 8 rfl rfl)
theorem dX0_calls_81 : decode cX0_calls 81 = .ok (.aload_n 0, 1) := dk_42 (dk_at dksX0_calls_3 11 rfl rfl)
theorem dX0_calls_82 : decode cX0_calls 82 = .ok (.getfield 226, 3) := dk_180 0 226 (dk_at dksX0_calls_3 12 rfl rfl)
theorem dX0_calls_85 : decode cX0_calls 85 = .ok (.ifCond .ne 15, 3) := dk_154 0 15 (dk_at dksX0_calls_3 15 rfl rfl)
theorem dX0_calls_88 : decode cX0_calls 88 = .ok (.aload_n 0, 1) := dk_42 (dk_at dksX0_calls_3 18 rfl rfl)
theorem dX0_calls_89 : decode cX0_calls 89 = .ok (.lload 6, 2) := dk_22 6 (dk_at dksX0_calls_3 19 rfl rfl)
theorem dX0_calls_91 : decode cX0_calls 91 = .ok (.l2i, 1) := dk_136 (dk_at dksX0_calls_3 21 rfl rfl)
theorem dX0_calls_92 : decode cX0_calls 92 = .ok (.invokevirtual 197, 3) := dk_182 0 197 (dk_at dksX0_calls_4 0 rfl rfl)
theorem dX0_calls_95 : decode cX0_calls 95 = .ok (.istore 8, 2) := dk_54 8 (dk_at dksX0_calls_4 3 rfl rfl)
theorem dX0_calls_97 : decode cX0_calls 97 = .ok (.iinc 3 1, 3) := dk_132 3 1 (dk_at dksX0_calls_4 5 rfl rfl)
theorem dX0_calls_100 : decode cX0_calls 100 = .ok (.goto (-64), 3) := dk_167 255 192 (dk_at dksX0_calls_4 8 rfl rfl)
theorem dX0_calls_103 : decode cX0_calls 103 = .ok (.goto 22, 3) := dk_167 0 22 (dk_at dksX0_calls_4 11 rfl rfl)
theorem dX0_calls_106 : decode cX0_calls 106 = .ok (.astore 4, 2) := dk_58 4 (dk_at dksX0_calls_4 14 rfl rfl)
theorem dX0_calls_108 : decode cX0_calls 108 = .ok (.aload_n 0, 1) := dk_42 (dk_at dksX0_calls_4 16 rfl rfl)
theorem dX0_calls_109 : decode cX0_calls 109 = .ok (.bipush (-11), 2) := dk_16 245 (dk_at dksX0_calls_4 17 rfl rfl)
theorem dX0_calls_111 : decode cX0_calls 111 = .ok (.putfield 226, 3) := dk_181 0 226 (dk_at dksX0_calls_4 19 rfl rfl)
theorem dX0_calls_114 : decode cX0_calls 114 = .ok (.goto 11, 3) := dk_167 0 11 (dk_at dksX0_calls_5 0 rfl rfl)
theorem dX0_calls_117 : decode cX0_calls 117 = .ok (.astore 4, 2) := dk_58 4 (dk_at dksX0_calls_5 3 rfl rfl)
theorem dX0_calls_119 : decode cX0_calls 119 = .ok (.aload_n 0, 1) := dk_42 (dk_at dksX0_calls_5 5 rfl rfl)
theorem dX0_calls_120 : decode cX0_calls 120 = .ok (.bipush (-12), 2) := dk_16 244 (dk_at dksX0_calls_5 6 rfl rfl)
theorem dX0_calls_122 : decode cX0_calls 122 = .ok (.putfield 226, 3) := dk_181 0 226 (dk_at dksX0_calls_5 8 rfl rfl)
theorem dX0_calls_125 : decode cX0_calls 125 = .ok (.iload_n 3, 1) := dk_29 (dk_at dksX0_calls_5 11 rfl rfl)
theorem dX0_calls_126 : decode cX0_calls 126 = .ok (.ireturn, 1) := dk_172 (dk_at dksX0_calls_5 12 rfl rfl)
abbrev cX0_about : ByteArray := prog_1_method_56_code
def yX0_about : MethodName := ⟨RX0, "about", "(I)I"⟩
def dkwX0_about_3 : List UInt8 := [182, 0, 179, 172, 42, 182, 0, 162, 153, 0, 7, 4, 167, 0, 4, 3, 172, 2, 172]
abbrev dktX0_about_3 : List UInt8 := dkwX0_about_3 ++ []
def dkwX0_about_2 : List UInt8 := [42, 180, 0, 97, 172, 42, 180, 0, 106, 172, 42, 180, 0, 118, 172, 42, 180, 0, 176, 172, 42, 180, 0, 58]
abbrev dktX0_about_2 : List UInt8 := dkwX0_about_2 ++ dktX0_about_3
def dkwX0_about_1 : List UInt8 := [170, 0, 0, 0, 0, 0, 80, 0, 0, 0, 0, 0, 0, 0, 5, 0, 0, 0, 39, 0, 0, 0, 44, 0, 0, 0, 49, 0, 0, 0, 54, 0, 0, 0, 59, 0, 0, 0, 67]
abbrev dktX0_about_1 : List UInt8 := dkwX0_about_1 ++ dktX0_about_2
def dkwX0_about_0 : List UInt8 := [27]
abbrev dktX0_about_0 : List UInt8 := dkwX0_about_0 ++ dktX0_about_1
theorem dksX0_about_0 : cX0_about.data.toList.drop 0 = dktX0_about_0 := by decide +kernel
theorem dksX0_about_1 : cX0_about.data.toList.drop 1 = dktX0_about_1 := dk_seg dksX0_about_0 1 rfl rfl
theorem dksX0_about_2 : cX0_about.data.toList.drop 40 = dktX0_about_2 := dk_seg dksX0_about_1 39 rfl rfl
theorem dksX0_about_3 : cX0_about.data.toList.drop 64 = dktX0_about_3 := dk_seg dksX0_about_2 24 rfl rfl
theorem dX0_about_0 : decode cX0_about 0 = .ok (.iload_n 1, 1) := dk_27 (dk_at dksX0_about_0 0 rfl rfl)
theorem dX0_about_1 : decode cX0_about 1 = .ok (.tableswitch 80 0 5 #[39, 44, 49, 54, 59, 67], 39) := by decide +kernel
theorem dX0_about_40 : decode cX0_about 40 = .ok (.aload_n 0, 1) := dk_42 (dk_at dksX0_about_2 0 rfl rfl)
theorem dX0_about_41 : decode cX0_about 41 = .ok (.getfield 97, 3) := dk_180 0 97 (dk_at dksX0_about_2 1 rfl rfl)
theorem dX0_about_44 : decode cX0_about 44 = .ok (.ireturn, 1) := dk_172 (dk_at dksX0_about_2 4 rfl rfl)
theorem dX0_about_45 : decode cX0_about 45 = .ok (.aload_n 0, 1) := dk_42 (dk_at dksX0_about_2 5 rfl rfl)
theorem dX0_about_46 : decode cX0_about 46 = .ok (.getfield 106, 3) := dk_180 0 106 (dk_at dksX0_about_2 6 rfl rfl)
theorem dX0_about_49 : decode cX0_about 49 = .ok (.ireturn, 1) := dk_172 (dk_at dksX0_about_2 9 rfl rfl)
theorem dX0_about_50 : decode cX0_about 50 = .ok (.aload_n 0, 1) := dk_42 (dk_at dksX0_about_2 10 rfl rfl)
theorem dX0_about_51 : decode cX0_about 51 = .ok (.getfield 118, 3) := dk_180 0 118 (dk_at dksX0_about_2 11 rfl rfl)
theorem dX0_about_54 : decode cX0_about 54 = .ok (.ireturn, 1) := dk_172 (dk_at dksX0_about_2 14 rfl rfl)
theorem dX0_about_55 : decode cX0_about 55 = .ok (.aload_n 0, 1) := dk_42 (dk_at dksX0_about_2 15 rfl rfl)
theorem dX0_about_56 : decode cX0_about 56 = .ok (.getfield 176, 3) := dk_180 0 176 (dk_at dksX0_about_2 16 rfl rfl)
theorem dX0_about_59 : decode cX0_about 59 = .ok (.ireturn, 1) := dk_172 (dk_at dksX0_about_2 19 rfl rfl)
theorem dX0_about_60 : decode cX0_about 60 = .ok (.aload_n 0, 1) := dk_42 (dk_at dksX0_about_2 20 rfl rfl)
theorem dX0_about_61 : decode cX0_about 61 = .ok (.getfield 58, 3) := dk_180 0 58 (dk_at dksX0_about_2 21 rfl rfl)
theorem dX0_about_64 : decode cX0_about 64 = .ok (.invokevirtual 179, 3) := dk_182 0 179 (dk_at dksX0_about_3 0 rfl rfl)
theorem dX0_about_67 : decode cX0_about 67 = .ok (.ireturn, 1) := dk_172 (dk_at dksX0_about_3 3 rfl rfl)
theorem dX0_about_68 : decode cX0_about 68 = .ok (.aload_n 0, 1) := dk_42 (dk_at dksX0_about_3 4 rfl rfl)
theorem dX0_about_69 : decode cX0_about 69 = .ok (.invokevirtual 162, 3) := dk_182 0 162 (dk_at dksX0_about_3 5 rfl rfl)
theorem dX0_about_72 : decode cX0_about 72 = .ok (.ifCond .eq 7, 3) := dk_153 0 7 (dk_at dksX0_about_3 8 rfl rfl)
theorem dX0_about_75 : decode cX0_about 75 = .ok (.iconst 1, 1) := dk_4 (dk_at dksX0_about_3 11 rfl rfl)
theorem dX0_about_76 : decode cX0_about 76 = .ok (.goto 4, 3) := dk_167 0 4 (dk_at dksX0_about_3 12 rfl rfl)
theorem dX0_about_79 : decode cX0_about 79 = .ok (.iconst 0, 1) := dk_3 (dk_at dksX0_about_3 15 rfl rfl)
theorem dX0_about_80 : decode cX0_about 80 = .ok (.ireturn, 1) := dk_172 (dk_at dksX0_about_3 16 rfl rfl)
theorem dX0_about_81 : decode cX0_about 81 = .ok (.iconst (-1), 1) := dk_2 (dk_at dksX0_about_3 17 rfl rfl)
theorem dX0_about_82 : decode cX0_about 82 = .ok (.ireturn, 1) := dk_172 (dk_at dksX0_about_3 18 rfl rfl)
abbrev cX0_trace : ByteArray := prog_1_method_57_code
def yX0_trace : MethodName := ⟨RX0, "trace", "()J"⟩
theorem dX0_trace_0 : decode cX0_trace 0 = .ok (.aload_n 0, 1) := by decide +kernel
theorem dX0_trace_1 : decode cX0_trace 1 = .ok (.getfield 205, 3) := by decide +kernel
theorem dX0_trace_4 : decode cX0_trace 4 = .ok (.lreturn, 1) := by decide +kernel
abbrev cX0_status : ByteArray := prog_1_method_58_code
def yX0_status : MethodName := ⟨RX0, "status", "()I"⟩
theorem dX0_status_0 : decode cX0_status 0 = .ok (.aload_n 0, 1) := by decide +kernel
theorem dX0_status_1 : decode cX0_status 1 = .ok (.getfield 226, 3) := by decide +kernel
theorem dX0_status_4 : decode cX0_status 4 = .ok (.ireturn, 1) := by decide +kernel
theorem q41 : (Jvm.Cond.initialized "LadderCalls") ∈ lw_all := lw_g (lw_at lw_m1 1 rfl) rfl
theorem q64 : (Jvm.Cond.instantiable "LadderCalls" (31 : Nat)) ∈ lw_all := lw_g (lw_at lw_m1 24 rfl) rfl
theorem q66 : (Jvm.Cond.instanceMethod ({ cls := "LadderCalls", name := "<init>", desc := "()V" } : Jvm.MethodName)) ∈ lw_all := lw_g (lw_at lw_m1 26 rfl) rfl
theorem q67 : (Jvm.Cond.code ({ cls := "LadderCalls", name := "<init>", desc := "()V" } : Jvm.MethodName) prog_1_method_1_code (1 : Nat) (Option.none : Option Jvm.ClassFile.FieldType)) ∈ lw_all := lw_g (lw_at lw_m1 27 rfl) rfl
theorem q68 : (Jvm.Cond.methodLink "LadderCalls" (1 : Nat) ({ cls := "java/lang/Object", name := "<init>", desc := "()V" } : Jvm.MethodName)) ∈ lw_all := lw_g (lw_at lw_m1 28 rfl) rfl
theorem q71 : (Jvm.Cond.classLink "LadderCalls" (40 : Nat) "LadderCalls$Near") ∈ lw_all := lw_g (lw_at lw_m1 31 rfl) rfl
theorem q74 : (Jvm.Cond.methodLinkNest "LadderCalls" (42 : Nat) ({ cls := "LadderCalls$Near", name := "<init>", desc := "(LLadderCalls;)V" } : Jvm.MethodName) "LadderCalls") ∈ lw_tbl := lw_at lw_m1 34 rfl
theorem q83 : (Jvm.Cond.classLink "LadderCalls" (45 : Nat) "LadderCalls$Even") ∈ lw_all := lw_g (lw_at lw_m1 43 rfl) rfl
theorem q85 : (Jvm.Cond.methodLinkNest "LadderCalls" (47 : Nat) ({ cls := "LadderCalls$Even", name := "<init>", desc := "(LLadderCalls;)V" } : Jvm.MethodName) "LadderCalls") ∈ lw_tbl := lw_at lw_m1 45 rfl
theorem q94 : (Jvm.Cond.classLink "LadderCalls" (48 : Nat) "LadderCalls$Turn") ∈ lw_all := lw_g (lw_at lw_m1 54 rfl) rfl
theorem q96 : (Jvm.Cond.methodLinkNest "LadderCalls" (50 : Nat) ({ cls := "LadderCalls$Turn", name := "<init>", desc := "(LLadderCalls;)V" } : Jvm.MethodName) "LadderCalls") ∈ lw_tbl := lw_at lw_m1 56 rfl
theorem q105 : (Jvm.Cond.classLink "LadderCalls" (51 : Nat) "LadderCalls$Ahead") ∈ lw_all := lw_g (lw_at lw_m1 65 rfl) rfl
theorem q107 : (Jvm.Cond.methodLinkNest "LadderCalls" (53 : Nat) ({ cls := "LadderCalls$Ahead", name := "<init>", desc := "(LLadderCalls;)V" } : Jvm.MethodName) "LadderCalls") ∈ lw_tbl := lw_at lw_m1 67 rfl
theorem q120 : (Jvm.Cond.classLink "LadderCalls" (68 : Nat) "[[I") ∈ lw_all := lw_g (lw_at lw_m1 80 rfl) rfl
theorem q122 : (Jvm.Cond.classLink "LadderCalls" (91 : Nat) "LadderCalls$Book") ∈ lw_all := lw_g (lw_at lw_m1 82 rfl) rfl
theorem q124 : (Jvm.Cond.fieldLink "LadderCalls" (97 : Nat) "LadderCalls" "places" "I") ∈ lw_all := lw_g (lw_at lw_m1 84 rfl) rfl
theorem q125 : (Jvm.Cond.fieldLink "LadderCalls" (106 : Nat) "LadderCalls" "roadMany" "I") ∈ lw_all := lw_g (lw_at lw_m1 85 rfl) rfl
theorem q126 : (Jvm.Cond.fieldLink "LadderCalls" (9 : Nat) "LadderCalls" "from" "[I") ∈ lw_all := lw_g (lw_at lw_m1 86 rfl) rfl
theorem q127 : (Jvm.Cond.fieldLink "LadderCalls" (13 : Nat) "LadderCalls" "to" "[I") ∈ lw_all := lw_g (lw_at lw_m1 87 rfl) rfl
theorem q128 : (Jvm.Cond.fieldLink "LadderCalls" (16 : Nat) "LadderCalls" "length" "[I") ∈ lw_all := lw_g (lw_at lw_m1 88 rfl) rfl
theorem q129 : (Jvm.Cond.fieldLink "LadderCalls" (19 : Nat) "LadderCalls" "away" "[I") ∈ lw_all := lw_g (lw_at lw_m1 89 rfl) rfl
theorem q134 : (Jvm.Cond.fieldLink "LadderCalls" (205 : Nat) "LadderCalls" "trace" "J") ∈ lw_all := lw_g (lw_at lw_m1 94 rfl) rfl
theorem q135 : (Jvm.Cond.fieldLink "LadderCalls" (226 : Nat) "LadderCalls" "status" "I") ∈ lw_all := lw_g (lw_at lw_m1 95 rfl) rfl
theorem q140 : (Jvm.Cond.fieldLink "LadderCalls" (118 : Nat) "LadderCalls" "ladders" "I") ∈ lw_all := lw_g (lw_at lw_m1 100 rfl) rfl
theorem q141 : (Jvm.Cond.fieldLink "LadderCalls" (146 : Nat) "LadderCalls" "beginning" "I") ∈ lw_all := lw_g (lw_at lw_m1 101 rfl) rfl
theorem q146 : (Jvm.Cond.fieldLink "LadderCalls" (170 : Nat) "LadderCalls" "now" "I") ∈ lw_all := lw_g (lw_at lw_m1 106 rfl) rfl
theorem q147 : (Jvm.Cond.fieldLink "LadderCalls" (22 : Nat) "LadderCalls" "sum" "[I") ∈ lw_all := lw_g (lw_at lw_m1 107 rfl) rfl
theorem q150 : (Jvm.Cond.fieldLink "LadderCalls" (173 : Nat) "LadderCalls" "nextTurn" "I") ∈ lw_all := lw_g (lw_at lw_m1 110 rfl) rfl
theorem q152 : (Jvm.Cond.fieldLink "LadderCalls" (176 : Nat) "LadderCalls" "callMany" "I") ∈ lw_all := lw_g (lw_at lw_m1 112 rfl) rfl
theorem q153 : (Jvm.Cond.fieldLink "LadderCalls" (25 : Nat) "LadderCalls" "calledAt" "[I") ∈ lw_all := lw_g (lw_at lw_m1 113 rfl) rfl
theorem q155 : (Jvm.Cond.fieldLink "LadderCalls" (28 : Nat) "LadderCalls" "went" "[I") ∈ lw_all := lw_g (lw_at lw_m1 115 rfl) rfl
theorem q156 : (Jvm.Cond.fieldLink "LadderCalls" (31 : Nat) "LadderCalls" "far" "[I") ∈ lw_all := lw_g (lw_at lw_m1 116 rfl) rfl
theorem q157 : (Jvm.Cond.fieldLink "LadderCalls" (34 : Nat) "LadderCalls" "sentBy" "[I") ∈ lw_all := lw_g (lw_at lw_m1 117 rfl) rfl
theorem q158 : (Jvm.Cond.fieldLink "LadderCalls" (37 : Nat) "LadderCalls" "turnBefore" "[I") ∈ lw_all := lw_g (lw_at lw_m1 118 rfl) rfl
theorem q159 : (Jvm.Cond.fieldLink "LadderCalls" (54 : Nat) "LadderCalls" "rules" "[LLadderCalls$Near;") ∈ lw_all := lw_g (lw_at lw_m1 119 rfl) rfl
theorem q160 : (Jvm.Cond.fieldLink "LadderCalls" (58 : Nat) "LadderCalls" "rule" "LLadderCalls$Near;") ∈ lw_all := lw_g (lw_at lw_m1 120 rfl) rfl
theorem q161 : (Jvm.Cond.fieldLink "LadderCalls" (62 : Nat) "LadderCalls" "work" "[I") ∈ lw_all := lw_g (lw_at lw_m1 121 rfl) rfl
theorem q162 : (Jvm.Cond.fieldLink "LadderCalls" (65 : Nat) "LadderCalls" "nextWork" "[I") ∈ lw_all := lw_g (lw_at lw_m1 122 rfl) rfl
theorem q163 : (Jvm.Cond.fieldLink "LadderCalls" (70 : Nat) "LadderCalls" "rest" "[[I") ∈ lw_all := lw_g (lw_at lw_m1 123 rfl) rfl
theorem q164 : (Jvm.Cond.fieldLink "LadderCalls" (73 : Nat) "LadderCalls" "keptCalls" "[I") ∈ lw_all := lw_g (lw_at lw_m1 124 rfl) rfl
theorem q165 : (Jvm.Cond.fieldLink "LadderCalls" (76 : Nat) "LadderCalls" "keptWent" "[I") ∈ lw_all := lw_g (lw_at lw_m1 125 rfl) rfl
theorem q166 : (Jvm.Cond.fieldLink "LadderCalls" (79 : Nat) "LadderCalls" "keptFar" "[I") ∈ lw_all := lw_g (lw_at lw_m1 126 rfl) rfl
theorem q167 : (Jvm.Cond.fieldLink "LadderCalls" (82 : Nat) "LadderCalls" "keptBy" "[I") ∈ lw_all := lw_g (lw_at lw_m1 127 rfl) rfl
theorem q168 : (Jvm.Cond.fieldLink "LadderCalls" (85 : Nat) "LadderCalls" "keptTurn" "[I") ∈ lw_all := lw_g (lw_at lw_m1 128 rfl) rfl
theorem q169 : (Jvm.Cond.fieldLink "LadderCalls" (88 : Nat) "LadderCalls" "keptSum" "[I") ∈ lw_all := lw_g (lw_at lw_m1 129 rfl) rfl
theorem q170 : (Jvm.Cond.fieldLink "LadderCalls" (93 : Nat) "LadderCalls" "books" "[LLadderCalls$Book;") ∈ lw_all := lw_g (lw_at lw_m1 130 rfl) rfl
theorem q171 : (Jvm.Cond.lays "LadderCalls" "LadderCalls" "places" "I") ∈ lw_all := lw_g (lw_at lw_m1 131 rfl) rfl
theorem q172 : (Jvm.Cond.soleField "LadderCalls" "places") ∈ lw_all := lw_g (lw_at lw_m1 132 rfl) rfl
theorem q173 : (Jvm.Cond.lays "LadderCalls" "LadderCalls" "roadMany" "I") ∈ lw_all := lw_g (lw_at lw_m1 133 rfl) rfl
theorem q174 : (Jvm.Cond.soleField "LadderCalls" "roadMany") ∈ lw_all := lw_g (lw_at lw_m1 134 rfl) rfl
theorem q175 : (Jvm.Cond.laysFinal "LadderCalls" "LadderCalls" "from" "[I") ∈ lw_all := lw_g (lw_at lw_m1 135 rfl) rfl
theorem q176 : (Jvm.Cond.soleField "LadderCalls" "from") ∈ lw_all := lw_g (lw_at lw_m1 136 rfl) rfl
theorem q177 : (Jvm.Cond.laysFinal "LadderCalls" "LadderCalls" "to" "[I") ∈ lw_all := lw_g (lw_at lw_m1 137 rfl) rfl
theorem q178 : (Jvm.Cond.soleField "LadderCalls" "to") ∈ lw_all := lw_g (lw_at lw_m1 138 rfl) rfl
theorem q179 : (Jvm.Cond.laysFinal "LadderCalls" "LadderCalls" "length" "[I") ∈ lw_all := lw_g (lw_at lw_m1 139 rfl) rfl
theorem q180 : (Jvm.Cond.soleField "LadderCalls" "length") ∈ lw_all := lw_g (lw_at lw_m1 140 rfl) rfl
theorem q181 : (Jvm.Cond.laysFinal "LadderCalls" "LadderCalls" "away" "[I") ∈ lw_all := lw_g (lw_at lw_m1 141 rfl) rfl
theorem q182 : (Jvm.Cond.soleField "LadderCalls" "away") ∈ lw_all := lw_g (lw_at lw_m1 142 rfl) rfl
theorem q183 : (Jvm.Cond.lays "LadderCalls" "LadderCalls" "trace" "J") ∈ lw_all := lw_g (lw_at lw_m1 143 rfl) rfl
theorem q184 : (Jvm.Cond.soleField "LadderCalls" "trace") ∈ lw_all := lw_g (lw_at lw_m1 144 rfl) rfl
theorem q185 : (Jvm.Cond.lays "LadderCalls" "LadderCalls" "status" "I") ∈ lw_all := lw_g (lw_at lw_m1 145 rfl) rfl
theorem q186 : (Jvm.Cond.soleField "LadderCalls" "status") ∈ lw_all := lw_g (lw_at lw_m1 146 rfl) rfl
theorem q187 : (Jvm.Cond.lays "LadderCalls" "LadderCalls" "ladders" "I") ∈ lw_all := lw_g (lw_at lw_m1 147 rfl) rfl
theorem q188 : (Jvm.Cond.soleField "LadderCalls" "ladders") ∈ lw_all := lw_g (lw_at lw_m1 148 rfl) rfl
theorem q189 : (Jvm.Cond.lays "LadderCalls" "LadderCalls" "beginning" "I") ∈ lw_all := lw_g (lw_at lw_m1 149 rfl) rfl
theorem q190 : (Jvm.Cond.soleField "LadderCalls" "beginning") ∈ lw_all := lw_g (lw_at lw_m1 150 rfl) rfl
theorem q191 : (Jvm.Cond.lays "LadderCalls" "LadderCalls" "now" "I") ∈ lw_all := lw_g (lw_at lw_m1 151 rfl) rfl
theorem q192 : (Jvm.Cond.soleField "LadderCalls" "now") ∈ lw_all := lw_g (lw_at lw_m1 152 rfl) rfl
theorem q193 : (Jvm.Cond.laysFinal "LadderCalls" "LadderCalls" "sum" "[I") ∈ lw_all := lw_g (lw_at lw_m1 153 rfl) rfl
theorem q194 : (Jvm.Cond.soleField "LadderCalls" "sum") ∈ lw_all := lw_g (lw_at lw_m1 154 rfl) rfl
theorem q195 : (Jvm.Cond.lays "LadderCalls" "LadderCalls" "nextTurn" "I") ∈ lw_all := lw_g (lw_at lw_m1 155 rfl) rfl
theorem q196 : (Jvm.Cond.soleField "LadderCalls" "nextTurn") ∈ lw_all := lw_g (lw_at lw_m1 156 rfl) rfl
theorem q197 : (Jvm.Cond.lays "LadderCalls" "LadderCalls" "callMany" "I") ∈ lw_all := lw_g (lw_at lw_m1 157 rfl) rfl
theorem q198 : (Jvm.Cond.soleField "LadderCalls" "callMany") ∈ lw_all := lw_g (lw_at lw_m1 158 rfl) rfl
theorem q199 : (Jvm.Cond.laysFinal "LadderCalls" "LadderCalls" "calledAt" "[I") ∈ lw_all := lw_g (lw_at lw_m1 159 rfl) rfl
theorem q200 : (Jvm.Cond.soleField "LadderCalls" "calledAt") ∈ lw_all := lw_g (lw_at lw_m1 160 rfl) rfl
theorem q201 : (Jvm.Cond.laysFinal "LadderCalls" "LadderCalls" "went" "[I") ∈ lw_all := lw_g (lw_at lw_m1 161 rfl) rfl
theorem q202 : (Jvm.Cond.soleField "LadderCalls" "went") ∈ lw_all := lw_g (lw_at lw_m1 162 rfl) rfl
theorem q203 : (Jvm.Cond.laysFinal "LadderCalls" "LadderCalls" "far" "[I") ∈ lw_all := lw_g (lw_at lw_m1 163 rfl) rfl
theorem q204 : (Jvm.Cond.soleField "LadderCalls" "far") ∈ lw_all := lw_g (lw_at lw_m1 164 rfl) rfl
theorem q205 : (Jvm.Cond.laysFinal "LadderCalls" "LadderCalls" "sentBy" "[I") ∈ lw_all := lw_g (lw_at lw_m1 165 rfl) rfl
theorem q206 : (Jvm.Cond.soleField "LadderCalls" "sentBy") ∈ lw_all := lw_g (lw_at lw_m1 166 rfl) rfl
theorem q207 : (Jvm.Cond.laysFinal "LadderCalls" "LadderCalls" "turnBefore" "[I") ∈ lw_all := lw_g (lw_at lw_m1 167 rfl) rfl
theorem q208 : (Jvm.Cond.soleField "LadderCalls" "turnBefore") ∈ lw_all := lw_g (lw_at lw_m1 168 rfl) rfl
theorem q209 : (Jvm.Cond.laysFinal "LadderCalls" "LadderCalls" "rules" "[LLadderCalls$Near;") ∈ lw_all := lw_g (lw_at lw_m1 169 rfl) rfl
theorem q210 : (Jvm.Cond.soleField "LadderCalls" "rules") ∈ lw_all := lw_g (lw_at lw_m1 170 rfl) rfl
theorem q211 : (Jvm.Cond.lays "LadderCalls" "LadderCalls" "rule" "LLadderCalls$Near;") ∈ lw_all := lw_g (lw_at lw_m1 171 rfl) rfl
theorem q212 : (Jvm.Cond.soleField "LadderCalls" "rule") ∈ lw_all := lw_g (lw_at lw_m1 172 rfl) rfl
theorem q213 : (Jvm.Cond.laysFinal "LadderCalls" "LadderCalls" "work" "[I") ∈ lw_all := lw_g (lw_at lw_m1 173 rfl) rfl
theorem q214 : (Jvm.Cond.soleField "LadderCalls" "work") ∈ lw_all := lw_g (lw_at lw_m1 174 rfl) rfl
theorem q215 : (Jvm.Cond.laysFinal "LadderCalls" "LadderCalls" "nextWork" "[I") ∈ lw_all := lw_g (lw_at lw_m1 175 rfl) rfl
theorem q216 : (Jvm.Cond.soleField "LadderCalls" "nextWork") ∈ lw_all := lw_g (lw_at lw_m1 176 rfl) rfl
theorem q217 : (Jvm.Cond.laysFinal "LadderCalls" "LadderCalls" "rest" "[[I") ∈ lw_all := lw_g (lw_at lw_m1 177 rfl) rfl
theorem q218 : (Jvm.Cond.soleField "LadderCalls" "rest") ∈ lw_all := lw_g (lw_at lw_m1 178 rfl) rfl
theorem q219 : (Jvm.Cond.laysFinal "LadderCalls" "LadderCalls" "keptCalls" "[I") ∈ lw_all := lw_g (lw_at lw_m1 179 rfl) rfl
theorem q220 : (Jvm.Cond.soleField "LadderCalls" "keptCalls") ∈ lw_all := lw_g (lw_at lw_m1 180 rfl) rfl
theorem q221 : (Jvm.Cond.laysFinal "LadderCalls" "LadderCalls" "keptWent" "[I") ∈ lw_all := lw_g (lw_at lw_m1 181 rfl) rfl
theorem q222 : (Jvm.Cond.soleField "LadderCalls" "keptWent") ∈ lw_all := lw_g (lw_at lw_m1 182 rfl) rfl
theorem q223 : (Jvm.Cond.laysFinal "LadderCalls" "LadderCalls" "keptFar" "[I") ∈ lw_all := lw_g (lw_at lw_m1 183 rfl) rfl
theorem q224 : (Jvm.Cond.soleField "LadderCalls" "keptFar") ∈ lw_all := lw_g (lw_at lw_m1 184 rfl) rfl
theorem q225 : (Jvm.Cond.laysFinal "LadderCalls" "LadderCalls" "keptBy" "[I") ∈ lw_all := lw_g (lw_at lw_m1 185 rfl) rfl
theorem q226 : (Jvm.Cond.soleField "LadderCalls" "keptBy") ∈ lw_all := lw_g (lw_at lw_m1 186 rfl) rfl
theorem q227 : (Jvm.Cond.laysFinal "LadderCalls" "LadderCalls" "keptTurn" "[I") ∈ lw_all := lw_g (lw_at lw_m1 187 rfl) rfl
theorem q228 : (Jvm.Cond.soleField "LadderCalls" "keptTurn") ∈ lw_all := lw_g (lw_at lw_m1 188 rfl) rfl
theorem q229 : (Jvm.Cond.laysFinal "LadderCalls" "LadderCalls" "keptSum" "[I") ∈ lw_all := lw_g (lw_at lw_m1 189 rfl) rfl
theorem q230 : (Jvm.Cond.soleField "LadderCalls" "keptSum") ∈ lw_all := lw_g (lw_at lw_m1 190 rfl) rfl
theorem q231 : (Jvm.Cond.laysFinal "LadderCalls" "LadderCalls" "books" "[LLadderCalls$Book;") ∈ lw_all := lw_g (lw_at lw_m1 191 rfl) rfl
theorem q232 : (Jvm.Cond.soleField "LadderCalls" "books") ∈ lw_all := lw_g (lw_at lw_m1 192 rfl) rfl
theorem q233 : (Jvm.Cond.superclass "LadderCalls" "java/lang/Object") ∈ lw_all := lw_g (lw_at lw_m1 193 rfl) rfl
theorem q235 : (Jvm.Cond.instanceMethod ({ cls := "LadderCalls", name := "place", desc := "()I" } : Jvm.MethodName)) ∈ lw_all := lw_g (lw_at lw_m1 195 rfl) rfl
theorem q236 : (Jvm.Cond.selects "LadderCalls" ({ cls := "LadderCalls", name := "place", desc := "()I" } : Jvm.MethodName) ({ cls := "LadderCalls", name := "place", desc := "()I" } : Jvm.MethodName)) ∈ lw_all := lw_g (lw_at lw_m1 196 rfl) rfl
theorem q237 : (Jvm.Cond.code ({ cls := "LadderCalls", name := "place", desc := "()I" } : Jvm.MethodName) prog_1_method_7_code (1 : Nat) (Option.some Jvm.ClassFile.FieldType.int)) ∈ lw_all := lw_g (lw_at lw_m1 197 rfl) rfl
theorem q238 : (Jvm.Cond.methodLink "LadderCalls" (121 : Nat) ({ cls := "LadderCalls", name := "measure", desc := "()V" } : Jvm.MethodName)) ∈ lw_all := lw_g (lw_at lw_m1 198 rfl) rfl
theorem q239 : (Jvm.Cond.privateMethod ({ cls := "LadderCalls", name := "measure", desc := "()V" } : Jvm.MethodName)) ∈ lw_tbl := lw_at lw_m1 199 rfl
theorem q240 : (Jvm.Cond.instanceMethod ({ cls := "LadderCalls", name := "measure", desc := "()V" } : Jvm.MethodName)) ∈ lw_all := lw_g (lw_at lw_m1 200 rfl) rfl
theorem q241 : (Jvm.Cond.code ({ cls := "LadderCalls", name := "measure", desc := "()V" } : Jvm.MethodName) prog_1_method_4_code (4 : Nat) (Option.none : Option Jvm.ClassFile.FieldType)) ∈ lw_all := lw_g (lw_at lw_m1 201 rfl) rfl
theorem q242 : (Jvm.Cond.constant "LadderCalls" (105 : Nat) (1000000 : Int32)) ∈ lw_all := lw_g (lw_at lw_m1 202 rfl) rfl
theorem q243 : (Jvm.Cond.methodLink "LadderCalls" (109 : Nat) ({ cls := "java/lang/Math", name := "min", desc := "(II)I" } : Jvm.MethodName)) ∈ lw_all := lw_g (lw_at lw_m1 203 rfl) rfl
theorem q247 : (Jvm.Cond.instanceMethod ({ cls := "LadderCalls", name := "road", desc := "(III)I" } : Jvm.MethodName)) ∈ lw_all := lw_g (lw_at lw_m1 207 rfl) rfl
theorem q248 : (Jvm.Cond.selects "LadderCalls" ({ cls := "LadderCalls", name := "road", desc := "(III)I" } : Jvm.MethodName) ({ cls := "LadderCalls", name := "road", desc := "(III)I" } : Jvm.MethodName)) ∈ lw_all := lw_g (lw_at lw_m1 208 rfl) rfl
theorem q249 : (Jvm.Cond.code ({ cls := "LadderCalls", name := "road", desc := "(III)I" } : Jvm.MethodName) prog_1_method_9_code (5 : Nat) (Option.some Jvm.ClassFile.FieldType.int)) ∈ lw_all := lw_g (lw_at lw_m1 209 rfl) rfl
theorem q250 : (Jvm.Cond.methodLink "LadderCalls" (128 : Nat) ({ cls := "LadderCalls", name := "against", desc := "(III)I" } : Jvm.MethodName)) ∈ lw_all := lw_g (lw_at lw_m1 210 rfl) rfl
theorem q251 : (Jvm.Cond.privateMethod ({ cls := "LadderCalls", name := "against", desc := "(III)I" } : Jvm.MethodName)) ∈ lw_tbl := lw_at lw_m1 211 rfl
theorem q252 : (Jvm.Cond.instanceMethod ({ cls := "LadderCalls", name := "against", desc := "(III)I" } : Jvm.MethodName)) ∈ lw_all := lw_g (lw_at lw_m1 212 rfl) rfl
theorem q253 : (Jvm.Cond.code ({ cls := "LadderCalls", name := "against", desc := "(III)I" } : Jvm.MethodName) prog_1_method_8_code (4 : Nat) (Option.some Jvm.ClassFile.FieldType.int)) ∈ lw_all := lw_g (lw_at lw_m1 213 rfl) rfl
theorem q254 : (Jvm.Cond.methodLink "LadderCalls" (124 : Nat) ({ cls := "LadderCalls", name := "isPlace", desc := "(I)Z" } : Jvm.MethodName)) ∈ lw_all := lw_g (lw_at lw_m1 214 rfl) rfl
theorem q255 : (Jvm.Cond.privateMethod ({ cls := "LadderCalls", name := "isPlace", desc := "(I)Z" } : Jvm.MethodName)) ∈ lw_tbl := lw_at lw_m1 215 rfl
theorem q256 : (Jvm.Cond.instanceMethod ({ cls := "LadderCalls", name := "isPlace", desc := "(I)Z" } : Jvm.MethodName)) ∈ lw_all := lw_g (lw_at lw_m1 216 rfl) rfl
theorem q257 : (Jvm.Cond.code ({ cls := "LadderCalls", name := "isPlace", desc := "(I)Z" } : Jvm.MethodName) prog_1_method_3_code (2 : Nat) (Option.some Jvm.ClassFile.FieldType.boolean)) ∈ lw_all := lw_g (lw_at lw_m1 217 rfl) rfl
theorem q258 : (Jvm.Cond.methodLink "LadderCalls" (101 : Nat) ({ cls := "LadderCalls", name := "in", desc := "(III)Z" } : Jvm.MethodName)) ∈ lw_all := lw_g (lw_at lw_m1 218 rfl) rfl
theorem q259 : (Jvm.Cond.static ({ cls := "LadderCalls", name := "in", desc := "(III)Z" } : Jvm.MethodName)) ∈ lw_all := lw_g (lw_at lw_m1 219 rfl) rfl
theorem q260 : (Jvm.Cond.code ({ cls := "LadderCalls", name := "in", desc := "(III)Z" } : Jvm.MethodName) prog_1_method_2_code (3 : Nat) (Option.some Jvm.ClassFile.FieldType.boolean)) ∈ lw_all := lw_g (lw_at lw_m1 220 rfl) rfl
theorem q262 : (Jvm.Cond.instanceMethod ({ cls := "LadderCalls", name := "apart", desc := "(II)I" } : Jvm.MethodName)) ∈ lw_all := lw_g (lw_at lw_m1 222 rfl) rfl
theorem q263 : (Jvm.Cond.selects "LadderCalls" ({ cls := "LadderCalls", name := "apart", desc := "(II)I" } : Jvm.MethodName) ({ cls := "LadderCalls", name := "apart", desc := "(II)I" } : Jvm.MethodName)) ∈ lw_all := lw_g (lw_at lw_m1 223 rfl) rfl
theorem q264 : (Jvm.Cond.code ({ cls := "LadderCalls", name := "apart", desc := "(II)I" } : Jvm.MethodName) prog_1_method_10_code (3 : Nat) (Option.some Jvm.ClassFile.FieldType.int)) ∈ lw_all := lw_g (lw_at lw_m1 224 rfl) rfl
theorem q265 : (Jvm.Cond.methodLink "LadderCalls" (115 : Nat) ({ cls := "LadderCalls", name := "distance", desc := "(II)I" } : Jvm.MethodName)) ∈ lw_all := lw_g (lw_at lw_m1 225 rfl) rfl
theorem q266 : (Jvm.Cond.privateMethod ({ cls := "LadderCalls", name := "distance", desc := "(II)I" } : Jvm.MethodName)) ∈ lw_tbl := lw_at lw_m1 226 rfl
theorem q267 : (Jvm.Cond.instanceMethod ({ cls := "LadderCalls", name := "distance", desc := "(II)I" } : Jvm.MethodName)) ∈ lw_all := lw_g (lw_at lw_m1 227 rfl) rfl
theorem q268 : (Jvm.Cond.code ({ cls := "LadderCalls", name := "distance", desc := "(II)I" } : Jvm.MethodName) prog_1_method_5_code (3 : Nat) (Option.some Jvm.ClassFile.FieldType.int)) ∈ lw_all := lw_g (lw_at lw_m1 228 rfl) rfl
theorem q270 : (Jvm.Cond.instanceMethod ({ cls := "LadderCalls", name := "way", desc := "(II)I" } : Jvm.MethodName)) ∈ lw_all := lw_g (lw_at lw_m1 230 rfl) rfl
theorem q271 : (Jvm.Cond.selects "LadderCalls" ({ cls := "LadderCalls", name := "way", desc := "(II)I" } : Jvm.MethodName) ({ cls := "LadderCalls", name := "way", desc := "(II)I" } : Jvm.MethodName)) ∈ lw_all := lw_g (lw_at lw_m1 231 rfl) rfl
theorem q272 : (Jvm.Cond.code ({ cls := "LadderCalls", name := "way", desc := "(II)I" } : Jvm.MethodName) prog_1_method_11_code (6 : Nat) (Option.some Jvm.ClassFile.FieldType.int)) ∈ lw_all := lw_g (lw_at lw_m1 232 rfl) rfl
theorem q274 : (Jvm.Cond.instanceMethod ({ cls := "LadderCalls", name := "begin", desc := "(II)I" } : Jvm.MethodName)) ∈ lw_all := lw_g (lw_at lw_m1 234 rfl) rfl
theorem q275 : (Jvm.Cond.selects "LadderCalls" ({ cls := "LadderCalls", name := "begin", desc := "(II)I" } : Jvm.MethodName) ({ cls := "LadderCalls", name := "begin", desc := "(II)I" } : Jvm.MethodName)) ∈ lw_all := lw_g (lw_at lw_m1 235 rfl) rfl
theorem q276 : (Jvm.Cond.code ({ cls := "LadderCalls", name := "begin", desc := "(II)I" } : Jvm.MethodName) prog_1_method_20_code (5 : Nat) (Option.some Jvm.ClassFile.FieldType.int)) ∈ lw_all := lw_g (lw_at lw_m1 236 rfl) rfl
theorem q277 : (Jvm.Cond.methodLink "LadderCalls" (143 : Nat) ({ cls := "LadderCalls", name := "isStand", desc := "(I)Z" } : Jvm.MethodName)) ∈ lw_all := lw_g (lw_at lw_m1 237 rfl) rfl
theorem q278 : (Jvm.Cond.privateMethod ({ cls := "LadderCalls", name := "isStand", desc := "(I)Z" } : Jvm.MethodName)) ∈ lw_tbl := lw_at lw_m1 238 rfl
theorem q279 : (Jvm.Cond.instanceMethod ({ cls := "LadderCalls", name := "isStand", desc := "(I)Z" } : Jvm.MethodName)) ∈ lw_all := lw_g (lw_at lw_m1 239 rfl) rfl
theorem q280 : (Jvm.Cond.code ({ cls := "LadderCalls", name := "isStand", desc := "(I)Z" } : Jvm.MethodName) prog_1_method_14_code (4 : Nat) (Option.some Jvm.ClassFile.FieldType.boolean)) ∈ lw_all := lw_g (lw_at lw_m2 0 rfl) rfl
theorem q281 : (Jvm.Cond.methodLink "LadderCalls" (132 : Nat) ({ cls := "LadderCalls", name := "at", desc := "(II)I" } : Jvm.MethodName)) ∈ lw_all := lw_g (lw_at lw_m2 1 rfl) rfl
theorem q282 : (Jvm.Cond.static ({ cls := "LadderCalls", name := "at", desc := "(II)I" } : Jvm.MethodName)) ∈ lw_all := lw_g (lw_at lw_m2 2 rfl) rfl
theorem q283 : (Jvm.Cond.code ({ cls := "LadderCalls", name := "at", desc := "(II)I" } : Jvm.MethodName) prog_1_method_12_code (2 : Nat) (Option.some Jvm.ClassFile.FieldType.int)) ∈ lw_all := lw_g (lw_at lw_m2 3 rfl) rfl
theorem q284 : (Jvm.Cond.methodLink "LadderCalls" (162 : Nat) ({ cls := "LadderCalls", name := "areTorn", desc := "()Z" } : Jvm.MethodName)) ∈ lw_all := lw_g (lw_at lw_m2 4 rfl) rfl
theorem q285 : (Jvm.Cond.privateMethod ({ cls := "LadderCalls", name := "areTorn", desc := "()Z" } : Jvm.MethodName)) ∈ lw_tbl := lw_at lw_m2 5 rfl
theorem q286 : (Jvm.Cond.instanceMethod ({ cls := "LadderCalls", name := "areTorn", desc := "()Z" } : Jvm.MethodName)) ∈ lw_all := lw_g (lw_at lw_m2 6 rfl) rfl
theorem q287 : (Jvm.Cond.code ({ cls := "LadderCalls", name := "areTorn", desc := "()Z" } : Jvm.MethodName) prog_1_method_6_code (3 : Nat) (Option.some Jvm.ClassFile.FieldType.boolean)) ∈ lw_all := lw_g (lw_at lw_m2 7 rfl) rfl
theorem q288 : (Jvm.Cond.methodLink "LadderCalls" (166 : Nat) ({ cls := "LadderCalls", name := "forget", desc := "(I)V" } : Jvm.MethodName)) ∈ lw_all := lw_g (lw_at lw_m2 8 rfl) rfl
theorem q289 : (Jvm.Cond.privateMethod ({ cls := "LadderCalls", name := "forget", desc := "(I)V" } : Jvm.MethodName)) ∈ lw_tbl := lw_at lw_m2 9 rfl
theorem q290 : (Jvm.Cond.instanceMethod ({ cls := "LadderCalls", name := "forget", desc := "(I)V" } : Jvm.MethodName)) ∈ lw_all := lw_g (lw_at lw_m2 10 rfl) rfl
theorem q291 : (Jvm.Cond.code ({ cls := "LadderCalls", name := "forget", desc := "(I)V" } : Jvm.MethodName) prog_1_method_21_code (3 : Nat) (Option.none : Option Jvm.ClassFile.FieldType)) ∈ lw_all := lw_g (lw_at lw_m2 11 rfl) rfl
theorem q293 : (Jvm.Cond.instanceMethod ({ cls := "LadderCalls", name := "end", desc := "()I" } : Jvm.MethodName)) ∈ lw_all := lw_g (lw_at lw_m2 13 rfl) rfl
theorem q294 : (Jvm.Cond.selects "LadderCalls" ({ cls := "LadderCalls", name := "end", desc := "()I" } : Jvm.MethodName) ({ cls := "LadderCalls", name := "end", desc := "()I" } : Jvm.MethodName)) ∈ lw_all := lw_g (lw_at lw_m2 14 rfl) rfl
theorem q295 : (Jvm.Cond.code ({ cls := "LadderCalls", name := "end", desc := "()I" } : Jvm.MethodName) prog_1_method_22_code (2 : Nat) (Option.some Jvm.ClassFile.FieldType.int)) ∈ lw_all := lw_g (lw_at lw_m2 15 rfl) rfl
theorem q297 : (Jvm.Cond.instanceMethod ({ cls := "LadderCalls", name := "rule", desc := "(I)I" } : Jvm.MethodName)) ∈ lw_all := lw_g (lw_at lw_m2 17 rfl) rfl
theorem q298 : (Jvm.Cond.selects "LadderCalls" ({ cls := "LadderCalls", name := "rule", desc := "(I)I" } : Jvm.MethodName) ({ cls := "LadderCalls", name := "rule", desc := "(I)I" } : Jvm.MethodName)) ∈ lw_all := lw_g (lw_at lw_m2 18 rfl) rfl
theorem q299 : (Jvm.Cond.code ({ cls := "LadderCalls", name := "rule", desc := "(I)I" } : Jvm.MethodName) prog_1_method_23_code (3 : Nat) (Option.some Jvm.ClassFile.FieldType.int)) ∈ lw_all := lw_g (lw_at lw_m2 19 rfl) rfl
theorem q300 : (Jvm.Cond.methodLink "LadderCalls" (179 : Nat) ({ cls := "LadderCalls$Near", name := "kind", desc := "()I" } : Jvm.MethodName)) ∈ lw_all := lw_g (lw_at lw_m2 20 rfl) rfl
theorem q315 : (Jvm.Cond.instanceMethod ({ cls := "LadderCalls", name := "call", desc := "(I)I" } : Jvm.MethodName)) ∈ lw_all := lw_g (lw_at lw_m2 35 rfl) rfl
theorem q316 : (Jvm.Cond.selects "LadderCalls" ({ cls := "LadderCalls", name := "call", desc := "(I)I" } : Jvm.MethodName) ({ cls := "LadderCalls", name := "call", desc := "(I)I" } : Jvm.MethodName)) ∈ lw_all := lw_g (lw_at lw_m2 36 rfl) rfl
theorem q317 : (Jvm.Cond.code ({ cls := "LadderCalls", name := "call", desc := "(I)I" } : Jvm.MethodName) prog_1_method_26_code (3 : Nat) (Option.some Jvm.ClassFile.FieldType.int)) ∈ lw_all := lw_g (lw_at lw_m2 37 rfl) rfl
theorem q318 : (Jvm.Cond.methodLink "LadderCalls" (194 : Nat) ({ cls := "LadderCalls", name := "againstCall", desc := "(I)I" } : Jvm.MethodName)) ∈ lw_all := lw_g (lw_at lw_m2 38 rfl) rfl
theorem q319 : (Jvm.Cond.privateMethod ({ cls := "LadderCalls", name := "againstCall", desc := "(I)I" } : Jvm.MethodName)) ∈ lw_tbl := lw_at lw_m2 39 rfl
theorem q320 : (Jvm.Cond.instanceMethod ({ cls := "LadderCalls", name := "againstCall", desc := "(I)I" } : Jvm.MethodName)) ∈ lw_all := lw_g (lw_at lw_m2 40 rfl) rfl
theorem q321 : (Jvm.Cond.code ({ cls := "LadderCalls", name := "againstCall", desc := "(I)I" } : Jvm.MethodName) prog_1_method_25_code (2 : Nat) (Option.some Jvm.ClassFile.FieldType.int)) ∈ lw_all := lw_g (lw_at lw_m2 41 rfl) rfl
theorem q322 : (Jvm.Cond.methodLink "LadderCalls" (197 : Nat) ({ cls := "LadderCalls", name := "serve", desc := "(I)I" } : Jvm.MethodName)) ∈ lw_all := lw_g (lw_at lw_m2 42 rfl) rfl
theorem q323 : (Jvm.Cond.privateMethod ({ cls := "LadderCalls", name := "serve", desc := "(I)I" } : Jvm.MethodName)) ∈ lw_tbl := lw_at lw_m2 43 rfl
theorem q324 : (Jvm.Cond.instanceMethod ({ cls := "LadderCalls", name := "serve", desc := "(I)I" } : Jvm.MethodName)) ∈ lw_all := lw_g (lw_at lw_m2 44 rfl) rfl
theorem q325 : (Jvm.Cond.code ({ cls := "LadderCalls", name := "serve", desc := "(I)I" } : Jvm.MethodName) prog_1_method_24_code (6 : Nat) (Option.some Jvm.ClassFile.FieldType.int)) ∈ lw_all := lw_g (lw_at lw_m2 45 rfl) rfl
theorem q326 : (Jvm.Cond.interfaceEntry "LadderCalls" (182 : Nat)) ∈ lw_tbl := lw_at lw_m2 46 rfl
theorem q327 : (Jvm.Cond.methodLink "LadderCalls" (182 : Nat) ({ cls := "LadderCalls$Sends", name := "sends", desc := "(I)I" } : Jvm.MethodName)) ∈ lw_all := lw_g (lw_at lw_m2 47 rfl) rfl
theorem q373 : (Jvm.Cond.privateMethod ({ cls := "LadderCalls", name := "workOf", desc := "(I)[I" } : Jvm.MethodName)) ∈ lw_tbl := lw_at lw_m2 93 rfl
theorem q374 : (Jvm.Cond.instanceMethod ({ cls := "LadderCalls", name := "workOf", desc := "(I)[I" } : Jvm.MethodName)) ∈ lw_all := lw_g (lw_at lw_m2 94 rfl) rfl
theorem q375 : (Jvm.Cond.code ({ cls := "LadderCalls", name := "workOf", desc := "(I)[I" } : Jvm.MethodName) prog_1_method_17_code (6 : Nat) (Option.some (Jvm.ClassFile.FieldType.array Jvm.ClassFile.FieldType.int))) ∈ lw_all := lw_g (lw_at lw_m2 95 rfl) rfl
theorem q376 : (Jvm.Cond.methodLink "LadderCalls" (139 : Nat) ({ cls := "LadderCalls", name := "standMany", desc := "()I" } : Jvm.MethodName)) ∈ lw_all := lw_g (lw_at lw_m2 96 rfl) rfl
theorem q377 : (Jvm.Cond.privateMethod ({ cls := "LadderCalls", name := "standMany", desc := "()I" } : Jvm.MethodName)) ∈ lw_tbl := lw_at lw_m2 97 rfl
theorem q378 : (Jvm.Cond.instanceMethod ({ cls := "LadderCalls", name := "standMany", desc := "()I" } : Jvm.MethodName)) ∈ lw_all := lw_g (lw_at lw_m2 98 rfl) rfl
theorem q379 : (Jvm.Cond.code ({ cls := "LadderCalls", name := "standMany", desc := "()I" } : Jvm.MethodName) prog_1_method_16_code (1 : Nat) (Option.some Jvm.ClassFile.FieldType.int)) ∈ lw_all := lw_g (lw_at lw_m2 99 rfl) rfl
theorem q380 : (Jvm.Cond.methodLink "LadderCalls" (135 : Nat) ({ cls := "LadderCalls", name := "movesOf", desc := "(IIII)I" } : Jvm.MethodName)) ∈ lw_all := lw_g (lw_at lw_m2 100 rfl) rfl
theorem q381 : (Jvm.Cond.privateMethod ({ cls := "LadderCalls", name := "movesOf", desc := "(IIII)I" } : Jvm.MethodName)) ∈ lw_tbl := lw_at lw_m2 101 rfl
theorem q382 : (Jvm.Cond.instanceMethod ({ cls := "LadderCalls", name := "movesOf", desc := "(IIII)I" } : Jvm.MethodName)) ∈ lw_all := lw_g (lw_at lw_m2 102 rfl) rfl
theorem q383 : (Jvm.Cond.code ({ cls := "LadderCalls", name := "movesOf", desc := "(IIII)I" } : Jvm.MethodName) prog_1_method_15_code (7 : Nat) (Option.some Jvm.ClassFile.FieldType.int)) ∈ lw_all := lw_g (lw_at lw_m2 103 rfl) rfl
theorem q384 : (Jvm.Cond.methodLink "LadderCalls" (149 : Nat) ({ cls := "LadderCalls", name := "moved", desc := "(III)I" } : Jvm.MethodName)) ∈ lw_all := lw_g (lw_at lw_m2 104 rfl) rfl
theorem q385 : (Jvm.Cond.static ({ cls := "LadderCalls", name := "moved", desc := "(III)I" } : Jvm.MethodName)) ∈ lw_all := lw_g (lw_at lw_m2 105 rfl) rfl
theorem q386 : (Jvm.Cond.code ({ cls := "LadderCalls", name := "moved", desc := "(III)I" } : Jvm.MethodName) prog_1_method_13_code (3 : Nat) (Option.some Jvm.ClassFile.FieldType.int)) ∈ lw_all := lw_g (lw_at lw_m2 106 rfl) rfl
theorem q387 : (Jvm.Cond.methodLink "LadderCalls" (152 : Nat) ({ cls := "java/lang/System", name := "arraycopy", desc := "(Ljava/lang/Object;ILjava/lang/Object;II)V" } : Jvm.MethodName)) ∈ lw_all := lw_g (lw_at lw_m2 107 rfl) rfl
theorem q411 : (Jvm.Cond.interfaceEntry "LadderCalls" (188 : Nat)) ∈ lw_tbl := lw_at lw_m2 131 rfl
theorem q412 : (Jvm.Cond.methodLink "LadderCalls" (188 : Nat) ({ cls := "LadderCalls$Sends", name := "has", desc := "(III)Z" } : Jvm.MethodName)) ∈ lw_all := lw_g (lw_at lw_m2 132 rfl) rfl
theorem q415 : (Jvm.Cond.methodLink "LadderCalls" (191 : Nat) ({ cls := "LadderCalls$Near", name := "went", desc := "(IZ)V" } : Jvm.MethodName)) ∈ lw_all := lw_g (lw_at lw_m2 135 rfl) rfl
theorem q426 : (Jvm.Cond.instanceMethod ({ cls := "LadderCalls", name := "back", desc := "()I" } : Jvm.MethodName)) ∈ lw_all := lw_g (lw_at lw_m2 146 rfl) rfl
theorem q427 : (Jvm.Cond.selects "LadderCalls" ({ cls := "LadderCalls", name := "back", desc := "()I" } : Jvm.MethodName) ({ cls := "LadderCalls", name := "back", desc := "()I" } : Jvm.MethodName)) ∈ lw_all := lw_g (lw_at lw_m2 147 rfl) rfl
theorem q428 : (Jvm.Cond.code ({ cls := "LadderCalls", name := "back", desc := "()I" } : Jvm.MethodName) prog_1_method_27_code (2 : Nat) (Option.some Jvm.ClassFile.FieldType.int)) ∈ lw_all := lw_g (lw_at lw_m2 148 rfl) rfl
theorem q430 : (Jvm.Cond.instanceMethod ({ cls := "LadderCalls", name := "cruel", desc := "()I" } : Jvm.MethodName)) ∈ lw_all := lw_g (lw_at lw_m2 150 rfl) rfl
theorem q431 : (Jvm.Cond.selects "LadderCalls" ({ cls := "LadderCalls", name := "cruel", desc := "()I" } : Jvm.MethodName) ({ cls := "LadderCalls", name := "cruel", desc := "()I" } : Jvm.MethodName)) ∈ lw_all := lw_g (lw_at lw_m2 151 rfl) rfl
theorem q432 : (Jvm.Cond.code ({ cls := "LadderCalls", name := "cruel", desc := "()I" } : Jvm.MethodName) prog_1_method_28_code (3 : Nat) (Option.some Jvm.ClassFile.FieldType.int)) ∈ lw_all := lw_g (lw_at lw_m2 152 rfl) rfl
theorem q434 : (Jvm.Cond.instanceMethod ({ cls := "LadderCalls", name := "ask", desc := "(I)I" } : Jvm.MethodName)) ∈ lw_all := lw_g (lw_at lw_m2 154 rfl) rfl
theorem q435 : (Jvm.Cond.selects "LadderCalls" ({ cls := "LadderCalls", name := "ask", desc := "(I)I" } : Jvm.MethodName) ({ cls := "LadderCalls", name := "ask", desc := "(I)I" } : Jvm.MethodName)) ∈ lw_all := lw_g (lw_at lw_m2 155 rfl) rfl
theorem q436 : (Jvm.Cond.code ({ cls := "LadderCalls", name := "ask", desc := "(I)I" } : Jvm.MethodName) prog_1_method_29_code (2 : Nat) (Option.some Jvm.ClassFile.FieldType.int)) ∈ lw_all := lw_g (lw_at lw_m2 156 rfl) rfl
theorem q437 : (Jvm.Cond.methodLink "LadderCalls" (201 : Nat) ({ cls := "LadderCalls$Near", name := "sends", desc := "(I)I" } : Jvm.MethodName)) ∈ lw_all := lw_g (lw_at lw_m2 157 rfl) rfl
theorem q438 : (Jvm.Cond.methodLink "LadderCalls" (202 : Nat) ({ cls := "LadderCalls", name := "askBehindAll", desc := "(I)I" } : Jvm.MethodName)) ∈ lw_all := lw_g (lw_at lw_m2 158 rfl) rfl
theorem q439 : (Jvm.Cond.privateMethod ({ cls := "LadderCalls", name := "askBehindAll", desc := "(I)I" } : Jvm.MethodName)) ∈ lw_tbl := lw_at lw_m2 159 rfl
theorem q440 : (Jvm.Cond.instanceMethod ({ cls := "LadderCalls", name := "askBehindAll", desc := "(I)I" } : Jvm.MethodName)) ∈ lw_all := lw_g (lw_at lw_m2 160 rfl) rfl
theorem q441 : (Jvm.Cond.code ({ cls := "LadderCalls", name := "askBehindAll", desc := "(I)I" } : Jvm.MethodName) prog_1_method_30_code (10 : Nat) (Option.some Jvm.ClassFile.FieldType.int)) ∈ lw_all := lw_g (lw_at lw_m2 161 rfl) rfl
theorem q442 : (Jvm.Cond.constantLong "LadderCalls" (209 : Nat) (1000 : Int64)) ∈ lw_all := lw_g (lw_at lw_m2 162 rfl) rfl
theorem q443 : (Jvm.Cond.methodLink "LadderCalls" (158 : Nat) ({ cls := "LadderCalls", name := "workOf", desc := "(I)[I" } : Jvm.MethodName)) ∈ lw_all := lw_g (lw_at lw_m2 163 rfl) rfl
theorem q444 : (Jvm.Cond.constant "LadderCalls" (211 : Nat) (2000000 : Int32)) ∈ lw_all := lw_g (lw_at lw_m2 164 rfl) rfl
theorem q446 : (Jvm.Cond.instanceMethod ({ cls := "LadderCalls", name := "stand", desc := "()I" } : Jvm.MethodName)) ∈ lw_all := lw_g (lw_at lw_m2 166 rfl) rfl
theorem q447 : (Jvm.Cond.selects "LadderCalls" ({ cls := "LadderCalls", name := "stand", desc := "()I" } : Jvm.MethodName) ({ cls := "LadderCalls", name := "stand", desc := "()I" } : Jvm.MethodName)) ∈ lw_all := lw_g (lw_at lw_m2 167 rfl) rfl
theorem q448 : (Jvm.Cond.code ({ cls := "LadderCalls", name := "stand", desc := "()I" } : Jvm.MethodName) prog_1_method_31_code (1 : Nat) (Option.some Jvm.ClassFile.FieldType.int)) ∈ lw_all := lw_g (lw_at lw_m2 168 rfl) rfl
theorem q450 : (Jvm.Cond.instanceMethod ({ cls := "LadderCalls", name := "told", desc := "(II)I" } : Jvm.MethodName)) ∈ lw_all := lw_g (lw_at lw_m2 170 rfl) rfl
theorem q451 : (Jvm.Cond.selects "LadderCalls" ({ cls := "LadderCalls", name := "told", desc := "(II)I" } : Jvm.MethodName) ({ cls := "LadderCalls", name := "told", desc := "(II)I" } : Jvm.MethodName)) ∈ lw_all := lw_g (lw_at lw_m2 171 rfl) rfl
theorem q452 : (Jvm.Cond.code ({ cls := "LadderCalls", name := "told", desc := "(II)I" } : Jvm.MethodName) prog_1_method_32_code (3 : Nat) (Option.some Jvm.ClassFile.FieldType.int)) ∈ lw_all := lw_g (lw_at lw_m2 172 rfl) rfl
theorem q454 : (Jvm.Cond.instanceMethod ({ cls := "LadderCalls", name := "cost", desc := "(I)I" } : Jvm.MethodName)) ∈ lw_all := lw_g (lw_at lw_m2 174 rfl) rfl
theorem q455 : (Jvm.Cond.selects "LadderCalls" ({ cls := "LadderCalls", name := "cost", desc := "(I)I" } : Jvm.MethodName) ({ cls := "LadderCalls", name := "cost", desc := "(I)I" } : Jvm.MethodName)) ∈ lw_all := lw_g (lw_at lw_m2 175 rfl) rfl
theorem q456 : (Jvm.Cond.code ({ cls := "LadderCalls", name := "cost", desc := "(I)I" } : Jvm.MethodName) prog_1_method_34_code (2 : Nat) (Option.some Jvm.ClassFile.FieldType.int)) ∈ lw_all := lw_g (lw_at lw_m2 176 rfl) rfl
theorem q457 : (Jvm.Cond.methodLink "LadderCalls" (212 : Nat) ({ cls := "LadderCalls", name := "costNow", desc := "()I" } : Jvm.MethodName)) ∈ lw_all := lw_g (lw_at lw_m2 177 rfl) rfl
theorem q458 : (Jvm.Cond.privateMethod ({ cls := "LadderCalls", name := "costNow", desc := "()I" } : Jvm.MethodName)) ∈ lw_tbl := lw_at lw_m2 178 rfl
theorem q459 : (Jvm.Cond.instanceMethod ({ cls := "LadderCalls", name := "costNow", desc := "()I" } : Jvm.MethodName)) ∈ lw_all := lw_g (lw_at lw_m2 179 rfl) rfl
theorem q460 : (Jvm.Cond.code ({ cls := "LadderCalls", name := "costNow", desc := "()I" } : Jvm.MethodName) prog_1_method_33_code (3 : Nat) (Option.some Jvm.ClassFile.FieldType.int)) ∈ lw_all := lw_g (lw_at lw_m2 180 rfl) rfl
theorem q462 : (Jvm.Cond.instanceMethod ({ cls := "LadderCalls", name := "moves", desc := "(II)I" } : Jvm.MethodName)) ∈ lw_all := lw_g (lw_at lw_m2 182 rfl) rfl
theorem q463 : (Jvm.Cond.selects "LadderCalls" ({ cls := "LadderCalls", name := "moves", desc := "(II)I" } : Jvm.MethodName) ({ cls := "LadderCalls", name := "moves", desc := "(II)I" } : Jvm.MethodName)) ∈ lw_all := lw_g (lw_at lw_m2 183 rfl) rfl
theorem q464 : (Jvm.Cond.code ({ cls := "LadderCalls", name := "moves", desc := "(II)I" } : Jvm.MethodName) prog_1_method_35_code (3 : Nat) (Option.some Jvm.ClassFile.FieldType.int)) ∈ lw_all := lw_g (lw_at lw_m2 184 rfl) rfl
theorem q466 : (Jvm.Cond.instanceMethod ({ cls := "LadderCalls", name := "work", desc := "(II)I" } : Jvm.MethodName)) ∈ lw_all := lw_g (lw_at lw_m2 186 rfl) rfl
theorem q467 : (Jvm.Cond.selects "LadderCalls" ({ cls := "LadderCalls", name := "work", desc := "(II)I" } : Jvm.MethodName) ({ cls := "LadderCalls", name := "work", desc := "(II)I" } : Jvm.MethodName)) ∈ lw_all := lw_g (lw_at lw_m2 187 rfl) rfl
theorem q468 : (Jvm.Cond.code ({ cls := "LadderCalls", name := "work", desc := "(II)I" } : Jvm.MethodName) prog_1_method_36_code (3 : Nat) (Option.some Jvm.ClassFile.FieldType.int)) ∈ lw_all := lw_g (lw_at lw_m2 188 rfl) rfl
theorem q470 : (Jvm.Cond.instanceMethod ({ cls := "LadderCalls", name := "least", desc := "(I)I" } : Jvm.MethodName)) ∈ lw_all := lw_g (lw_at lw_m2 190 rfl) rfl
theorem q471 : (Jvm.Cond.selects "LadderCalls" ({ cls := "LadderCalls", name := "least", desc := "(I)I" } : Jvm.MethodName) ({ cls := "LadderCalls", name := "least", desc := "(I)I" } : Jvm.MethodName)) ∈ lw_all := lw_g (lw_at lw_m2 191 rfl) rfl
theorem q472 : (Jvm.Cond.code ({ cls := "LadderCalls", name := "least", desc := "(I)I" } : Jvm.MethodName) prog_1_method_37_code (2 : Nat) (Option.some Jvm.ClassFile.FieldType.int)) ∈ lw_all := lw_g (lw_at lw_m2 192 rfl) rfl
theorem q473 : (Jvm.Cond.methodLink "LadderCalls" (215 : Nat) ({ cls := "LadderCalls", name := "leastOf", desc := "(I)I" } : Jvm.MethodName)) ∈ lw_all := lw_g (lw_at lw_m2 193 rfl) rfl
theorem q474 : (Jvm.Cond.privateMethod ({ cls := "LadderCalls", name := "leastOf", desc := "(I)I" } : Jvm.MethodName)) ∈ lw_tbl := lw_at lw_m2 194 rfl
theorem q475 : (Jvm.Cond.instanceMethod ({ cls := "LadderCalls", name := "leastOf", desc := "(I)I" } : Jvm.MethodName)) ∈ lw_all := lw_g (lw_at lw_m2 195 rfl) rfl
theorem q476 : (Jvm.Cond.code ({ cls := "LadderCalls", name := "leastOf", desc := "(I)I" } : Jvm.MethodName) prog_1_method_18_code (5 : Nat) (Option.some Jvm.ClassFile.FieldType.int)) ∈ lw_all := lw_g (lw_at lw_m2 196 rfl) rfl
theorem q478 : (Jvm.Cond.instanceMethod ({ cls := "LadderCalls", name := "plan", desc := "(II)I" } : Jvm.MethodName)) ∈ lw_all := lw_g (lw_at lw_m2 198 rfl) rfl
theorem q479 : (Jvm.Cond.selects "LadderCalls" ({ cls := "LadderCalls", name := "plan", desc := "(II)I" } : Jvm.MethodName) ({ cls := "LadderCalls", name := "plan", desc := "(II)I" } : Jvm.MethodName)) ∈ lw_all := lw_g (lw_at lw_m2 199 rfl) rfl
theorem q480 : (Jvm.Cond.code ({ cls := "LadderCalls", name := "plan", desc := "(II)I" } : Jvm.MethodName) prog_1_method_38_code (7 : Nat) (Option.some Jvm.ClassFile.FieldType.int)) ∈ lw_all := lw_g (lw_at lw_m2 200 rfl) rfl
theorem q481 : (Jvm.Cond.methodLink "LadderCalls" (218 : Nat) ({ cls := "LadderCalls", name := "findRest", desc := "(I)V" } : Jvm.MethodName)) ∈ lw_all := lw_g (lw_at lw_m2 201 rfl) rfl
theorem q482 : (Jvm.Cond.privateMethod ({ cls := "LadderCalls", name := "findRest", desc := "(I)V" } : Jvm.MethodName)) ∈ lw_tbl := lw_at lw_m2 202 rfl
theorem q483 : (Jvm.Cond.instanceMethod ({ cls := "LadderCalls", name := "findRest", desc := "(I)V" } : Jvm.MethodName)) ∈ lw_all := lw_g (lw_at lw_m2 203 rfl) rfl
theorem q484 : (Jvm.Cond.code ({ cls := "LadderCalls", name := "findRest", desc := "(I)V" } : Jvm.MethodName) prog_1_method_19_code (7 : Nat) (Option.none : Option Jvm.ClassFile.FieldType)) ∈ lw_all := lw_g (lw_at lw_m2 204 rfl) rfl
theorem q486 : (Jvm.Cond.instanceMethod ({ cls := "LadderCalls", name := "ratio", desc := "()I" } : Jvm.MethodName)) ∈ lw_all := lw_g (lw_at lw_m2 206 rfl) rfl
theorem q487 : (Jvm.Cond.selects "LadderCalls" ({ cls := "LadderCalls", name := "ratio", desc := "()I" } : Jvm.MethodName) ({ cls := "LadderCalls", name := "ratio", desc := "()I" } : Jvm.MethodName)) ∈ lw_all := lw_g (lw_at lw_m2 207 rfl) rfl
theorem q488 : (Jvm.Cond.code ({ cls := "LadderCalls", name := "ratio", desc := "()I" } : Jvm.MethodName) prog_1_method_39_code (2 : Nat) (Option.some Jvm.ClassFile.FieldType.int)) ∈ lw_all := lw_g (lw_at lw_m2 208 rfl) rfl
theorem q490 : (Jvm.Cond.instanceMethod ({ cls := "LadderCalls", name := "worst", desc := "(II)I" } : Jvm.MethodName)) ∈ lw_all := lw_g (lw_at lw_m2 210 rfl) rfl
theorem q491 : (Jvm.Cond.selects "LadderCalls" ({ cls := "LadderCalls", name := "worst", desc := "(II)I" } : Jvm.MethodName) ({ cls := "LadderCalls", name := "worst", desc := "(II)I" } : Jvm.MethodName)) ∈ lw_all := lw_g (lw_at lw_m2 211 rfl) rfl
theorem q492 : (Jvm.Cond.code ({ cls := "LadderCalls", name := "worst", desc := "(II)I" } : Jvm.MethodName) prog_1_method_41_code (14 : Nat) (Option.some Jvm.ClassFile.FieldType.int)) ∈ lw_all := lw_g (lw_at lw_m2 212 rfl) rfl
theorem q493 : (Jvm.Cond.methodLink "LadderCalls" (221 : Nat) ({ cls := "LadderCalls", name := "keep", desc := "(Z)V" } : Jvm.MethodName)) ∈ lw_all := lw_g (lw_at lw_m2 213 rfl) rfl
theorem q494 : (Jvm.Cond.privateMethod ({ cls := "LadderCalls", name := "keep", desc := "(Z)V" } : Jvm.MethodName)) ∈ lw_tbl := lw_at lw_m2 214 rfl
theorem q495 : (Jvm.Cond.instanceMethod ({ cls := "LadderCalls", name := "keep", desc := "(Z)V" } : Jvm.MethodName)) ∈ lw_all := lw_g (lw_at lw_m2 215 rfl) rfl
theorem q496 : (Jvm.Cond.code ({ cls := "LadderCalls", name := "keep", desc := "(Z)V" } : Jvm.MethodName) prog_1_method_40_code (2 : Nat) (Option.none : Option Jvm.ClassFile.FieldType)) ∈ lw_all := lw_g (lw_at lw_m2 216 rfl) rfl
theorem q497 : (Jvm.Cond.constant "LadderCalls" (225 : Nat) (-1000000 : Int32)) ∈ lw_all := lw_g (lw_at lw_m2 217 rfl) rfl
theorem q499 : (Jvm.Cond.instanceMethod ({ cls := "LadderCalls", name := "book", desc := "(III)I" } : Jvm.MethodName)) ∈ lw_all := lw_g (lw_at lw_m2 219 rfl) rfl
theorem q500 : (Jvm.Cond.selects "LadderCalls" ({ cls := "LadderCalls", name := "book", desc := "(III)I" } : Jvm.MethodName) ({ cls := "LadderCalls", name := "book", desc := "(III)I" } : Jvm.MethodName)) ∈ lw_all := lw_g (lw_at lw_m2 220 rfl) rfl
theorem q501 : (Jvm.Cond.codeWith ({ cls := "LadderCalls", name := "book", desc := "(III)I" } : Jvm.MethodName) prog_1_method_46_code (5 : Nat) (Option.some Jvm.ClassFile.FieldType.int) [((27 : Nat), (43 : Nat), (44 : Nat), (255 : Nat))]) ∈ lw_all := lw_g (lw_at lw_m2 221 rfl) rfl
theorem q502 : (Jvm.Cond.classLink "LadderCalls" (255 : Nat) "java/lang/NegativeArraySizeException") ∈ lw_all := lw_g (lw_at lw_m2 222 rfl) rfl
theorem q587 : (Jvm.Cond.methodLink "LadderCalls" (242 : Nat) ({ cls := "LadderCalls", name := "isBook", desc := "(I)Z" } : Jvm.MethodName)) ∈ lw_all := lw_g (lw_at lw_m3 67 rfl) rfl
theorem q588 : (Jvm.Cond.static ({ cls := "LadderCalls", name := "isBook", desc := "(I)Z" } : Jvm.MethodName)) ∈ lw_all := lw_g (lw_at lw_m3 68 rfl) rfl
theorem q589 : (Jvm.Cond.code ({ cls := "LadderCalls", name := "isBook", desc := "(I)Z" } : Jvm.MethodName) prog_1_method_44_code (1 : Nat) (Option.some Jvm.ClassFile.FieldType.boolean)) ∈ lw_all := lw_g (lw_at lw_m3 69 rfl) rfl
theorem q590 : (Jvm.Cond.methodLink "LadderCalls" (245 : Nat) ({ cls := "LadderCalls", name := "refused", desc := "(I)I" } : Jvm.MethodName)) ∈ lw_all := lw_g (lw_at lw_m3 70 rfl) rfl
theorem q591 : (Jvm.Cond.privateMethod ({ cls := "LadderCalls", name := "refused", desc := "(I)I" } : Jvm.MethodName)) ∈ lw_tbl := lw_at lw_m3 71 rfl
theorem q592 : (Jvm.Cond.instanceMethod ({ cls := "LadderCalls", name := "refused", desc := "(I)I" } : Jvm.MethodName)) ∈ lw_all := lw_g (lw_at lw_m3 72 rfl) rfl
theorem q593 : (Jvm.Cond.code ({ cls := "LadderCalls", name := "refused", desc := "(I)I" } : Jvm.MethodName) prog_1_method_43_code (2 : Nat) (Option.some Jvm.ClassFile.FieldType.int)) ∈ lw_all := lw_g (lw_at lw_m3 73 rfl) rfl
theorem q594 : (Jvm.Cond.methodLink "LadderCalls" (248 : Nat) ({ cls := "LadderCalls", name := "bookOf", desc := "(II)LLadderCalls$Book;" } : Jvm.MethodName)) ∈ lw_all := lw_g (lw_at lw_m3 74 rfl) rfl
theorem q595 : (Jvm.Cond.static ({ cls := "LadderCalls", name := "bookOf", desc := "(II)LLadderCalls$Book;" } : Jvm.MethodName)) ∈ lw_all := lw_g (lw_at lw_m3 75 rfl) rfl
theorem q596 : (Jvm.Cond.code ({ cls := "LadderCalls", name := "bookOf", desc := "(II)LLadderCalls$Book;" } : Jvm.MethodName) prog_1_method_45_code (2 : Nat) (Option.some (Jvm.ClassFile.FieldType.object "LadderCalls$Book"))) ∈ lw_all := lw_g (lw_at lw_m3 76 rfl) rfl
theorem q597 : (Jvm.Cond.classLink "LadderCalls" (229 : Nat) "LadderCalls$Bytes") ∈ lw_all := lw_g (lw_at lw_m3 77 rfl) rfl
theorem q599 : (Jvm.Cond.methodLink "LadderCalls" (231 : Nat) ({ cls := "LadderCalls$Bytes", name := "<init>", desc := "(I)V" } : Jvm.MethodName)) ∈ lw_all := lw_g (lw_at lw_m3 79 rfl) rfl
theorem q609 : (Jvm.Cond.fieldLinkNest "LadderCalls" (265 : Nat) "LadderCalls$Bytes" "rows" "[[B" "LadderCalls") ∈ lw_tbl := lw_at lw_m3 89 rfl
theorem q613 : (Jvm.Cond.classLink "LadderCalls" (233 : Nat) "LadderCalls$Shorts") ∈ lw_all := lw_g (lw_at lw_m3 93 rfl) rfl
theorem q615 : (Jvm.Cond.methodLink "LadderCalls" (235 : Nat) ({ cls := "LadderCalls$Shorts", name := "<init>", desc := "(I)V" } : Jvm.MethodName)) ∈ lw_all := lw_g (lw_at lw_m3 95 rfl) rfl
theorem q622 : (Jvm.Cond.fieldLinkNest "LadderCalls" (269 : Nat) "LadderCalls$Shorts" "rows" "[[S" "LadderCalls") ∈ lw_tbl := lw_at lw_m3 102 rfl
theorem q626 : (Jvm.Cond.classLink "LadderCalls" (236 : Nat) "LadderCalls$Ints") ∈ lw_all := lw_g (lw_at lw_m3 106 rfl) rfl
theorem q628 : (Jvm.Cond.methodLink "LadderCalls" (238 : Nat) ({ cls := "LadderCalls$Ints", name := "<init>", desc := "(I)V" } : Jvm.MethodName)) ∈ lw_all := lw_g (lw_at lw_m3 108 rfl) rfl
theorem q634 : (Jvm.Cond.fieldLinkNest "LadderCalls" (272 : Nat) "LadderCalls$Ints" "rows" "[[I" "LadderCalls") ∈ lw_tbl := lw_at lw_m3 114 rfl
theorem q638 : (Jvm.Cond.classLink "LadderCalls" (239 : Nat) "LadderCalls$Longs") ∈ lw_all := lw_g (lw_at lw_m3 118 rfl) rfl
theorem q640 : (Jvm.Cond.methodLink "LadderCalls" (241 : Nat) ({ cls := "LadderCalls$Longs", name := "<init>", desc := "(I)V" } : Jvm.MethodName)) ∈ lw_all := lw_g (lw_at lw_m3 120 rfl) rfl
theorem q647 : (Jvm.Cond.fieldLinkNest "LadderCalls" (274 : Nat) "LadderCalls$Longs" "rows" "[[J" "LadderCalls") ∈ lw_tbl := lw_at lw_m3 127 rfl
theorem q651 : (Jvm.Cond.methodLink "LadderCalls" (252 : Nat) ({ cls := "LadderCalls", name := "says", desc := "(I)I" } : Jvm.MethodName)) ∈ lw_all := lw_g (lw_at lw_m3 131 rfl) rfl
theorem q652 : (Jvm.Cond.privateMethod ({ cls := "LadderCalls", name := "says", desc := "(I)I" } : Jvm.MethodName)) ∈ lw_tbl := lw_at lw_m3 132 rfl
theorem q653 : (Jvm.Cond.instanceMethod ({ cls := "LadderCalls", name := "says", desc := "(I)I" } : Jvm.MethodName)) ∈ lw_all := lw_g (lw_at lw_m3 133 rfl) rfl
theorem q654 : (Jvm.Cond.code ({ cls := "LadderCalls", name := "says", desc := "(I)I" } : Jvm.MethodName) prog_1_method_42_code (2 : Nat) (Option.some Jvm.ClassFile.FieldType.int)) ∈ lw_all := lw_g (lw_at lw_m3 134 rfl) rfl
theorem q656 : (Jvm.Cond.instanceMethod ({ cls := "LadderCalls", name := "row", desc := "(III)I" } : Jvm.MethodName)) ∈ lw_all := lw_g (lw_at lw_m3 136 rfl) rfl
theorem q657 : (Jvm.Cond.selects "LadderCalls" ({ cls := "LadderCalls", name := "row", desc := "(III)I" } : Jvm.MethodName) ({ cls := "LadderCalls", name := "row", desc := "(III)I" } : Jvm.MethodName)) ∈ lw_all := lw_g (lw_at lw_m3 137 rfl) rfl
theorem q658 : (Jvm.Cond.codeWith ({ cls := "LadderCalls", name := "row", desc := "(III)I" } : Jvm.MethodName) prog_1_method_47_code (5 : Nat) (Option.some Jvm.ClassFile.FieldType.int) [((19 : Nat), (35 : Nat), (36 : Nat), (261 : Nat)), ((19 : Nat), (35 : Nat), (45 : Nat), (263 : Nat)), ((19 : Nat), (35 : Nat), (54 : Nat), (255 : Nat))]) ∈ lw_all := lw_g (lw_at lw_m3 138 rfl) rfl
theorem q659 : (Jvm.Cond.classLink "LadderCalls" (261 : Nat) "java/lang/NullPointerException") ∈ lw_all := lw_g (lw_at lw_m3 139 rfl) rfl
theorem q684 : (Jvm.Cond.classLink "LadderCalls" (263 : Nat) "java/lang/ArrayIndexOutOfBoundsException") ∈ lw_all := lw_g (lw_at lw_m3 164 rfl) rfl
theorem q703 : (Jvm.Cond.methodLink "LadderCalls" (257 : Nat) ({ cls := "LadderCalls$Book", name := "make", desc := "(II)V" } : Jvm.MethodName)) ∈ lw_all := lw_g (lw_at lw_m3 183 rfl) rfl
theorem q721 : (Jvm.Cond.instanceMethod ({ cls := "LadderCalls", name := "put", desc := "(IIIIJ)I" } : Jvm.MethodName)) ∈ lw_all := lw_g (lw_at lw_m3 201 rfl) rfl
theorem q722 : (Jvm.Cond.selects "LadderCalls" ({ cls := "LadderCalls", name := "put", desc := "(IIIIJ)I" } : Jvm.MethodName) ({ cls := "LadderCalls", name := "put", desc := "(IIIIJ)I" } : Jvm.MethodName)) ∈ lw_all := lw_g (lw_at lw_m3 202 rfl) rfl
theorem q723 : (Jvm.Cond.codeWith ({ cls := "LadderCalls", name := "put", desc := "(IIIIJ)I" } : Jvm.MethodName) prog_1_method_49_code (8 : Nat) (Option.some Jvm.ClassFile.FieldType.int) [((22 : Nat), (42 : Nat), (43 : Nat), (261 : Nat)), ((22 : Nat), (42 : Nat), (52 : Nat), (281 : Nat)), ((22 : Nat), (42 : Nat), (61 : Nat), (263 : Nat))]) ∈ lw_all := lw_g (lw_at lw_m3 203 rfl) rfl
theorem q724 : (Jvm.Cond.classLink "LadderCalls" (281 : Nat) "java/lang/ClassCastException") ∈ lw_all := lw_g (lw_at lw_m3 204 rfl) rfl
theorem q738 : (Jvm.Cond.methodLink "LadderCalls" (277 : Nat) ({ cls := "LadderCalls", name := "putIn", desc := "(LLadderCalls$Book;IIIJ)V" } : Jvm.MethodName)) ∈ lw_all := lw_g (lw_at lw_m3 218 rfl) rfl
theorem q739 : (Jvm.Cond.static ({ cls := "LadderCalls", name := "putIn", desc := "(LLadderCalls$Book;IIIJ)V" } : Jvm.MethodName)) ∈ lw_all := lw_g (lw_at lw_m3 219 rfl) rfl
theorem q740 : (Jvm.Cond.code ({ cls := "LadderCalls", name := "putIn", desc := "(LLadderCalls$Book;IIIJ)V" } : Jvm.MethodName) prog_1_method_48_code (10 : Nat) (Option.none : Option Jvm.ClassFile.FieldType)) ∈ lw_all := lw_g (lw_at lw_m3 220 rfl) rfl
theorem q742 : (Jvm.Cond.instanceMethod ({ cls := "LadderCalls", name := "item", desc := "(IIII)J" } : Jvm.MethodName)) ∈ lw_all := lw_g (lw_at lw_m3 222 rfl) rfl
theorem q743 : (Jvm.Cond.selects "LadderCalls" ({ cls := "LadderCalls", name := "item", desc := "(IIII)J" } : Jvm.MethodName) ({ cls := "LadderCalls", name := "item", desc := "(IIII)J" } : Jvm.MethodName)) ∈ lw_all := lw_g (lw_at lw_m3 223 rfl) rfl
theorem q744 : (Jvm.Cond.codeWith ({ cls := "LadderCalls", name := "item", desc := "(IIII)J" } : Jvm.MethodName) prog_1_method_51_code (8 : Nat) (Option.some Jvm.ClassFile.FieldType.long) [((19 : Nat), (41 : Nat), (42 : Nat), (261 : Nat)), ((19 : Nat), (41 : Nat), (51 : Nat), (281 : Nat)), ((19 : Nat), (41 : Nat), (60 : Nat), (263 : Nat))]) ∈ lw_all := lw_g (lw_at lw_m3 224 rfl) rfl
theorem q745 : (Jvm.Cond.methodLink "LadderCalls" (283 : Nat) ({ cls := "LadderCalls", name := "itemOf", desc := "(LLadderCalls$Book;III)J" } : Jvm.MethodName)) ∈ lw_all := lw_g (lw_at lw_m3 225 rfl) rfl
theorem q746 : (Jvm.Cond.static ({ cls := "LadderCalls", name := "itemOf", desc := "(LLadderCalls$Book;III)J" } : Jvm.MethodName)) ∈ lw_all := lw_g (lw_at lw_m3 226 rfl) rfl
theorem q747 : (Jvm.Cond.code ({ cls := "LadderCalls", name := "itemOf", desc := "(LLadderCalls$Book;III)J" } : Jvm.MethodName) prog_1_method_50_code (4 : Nat) (Option.some Jvm.ClassFile.FieldType.long)) ∈ lw_all := lw_g (lw_at lw_m3 227 rfl) rfl
theorem q749 : (Jvm.Cond.instanceMethod ({ cls := "LadderCalls", name := "roads", desc := "(I)I" } : Jvm.MethodName)) ∈ lw_all := lw_g (lw_at lw_m3 229 rfl) rfl
theorem q750 : (Jvm.Cond.selects "LadderCalls" ({ cls := "LadderCalls", name := "roads", desc := "(I)I" } : Jvm.MethodName) ({ cls := "LadderCalls", name := "roads", desc := "(I)I" } : Jvm.MethodName)) ∈ lw_all := lw_g (lw_at lw_m3 230 rfl) rfl
theorem q751 : (Jvm.Cond.codeWith ({ cls := "LadderCalls", name := "roads", desc := "(I)I" } : Jvm.MethodName) prog_1_method_54_code (5 : Nat) (Option.some Jvm.ClassFile.FieldType.int) [((20 : Nat), (74 : Nat), (77 : Nat), (261 : Nat)), ((20 : Nat), (74 : Nat), (87 : Nat), (263 : Nat))]) ∈ lw_all := lw_g (lw_at lw_m3 231 rfl) rfl
theorem q752 : (Jvm.Cond.methodLink "LadderCalls" (298 : Nat) ({ cls := "LadderCalls$Book", name := "rows", desc := "()I" } : Jvm.MethodName)) ∈ lw_all := lw_g (lw_at lw_m3 232 rfl) rfl
theorem q767 : (Jvm.Cond.methodLink "LadderCalls" (300 : Nat) ({ cls := "LadderCalls", name := "roadFrom", desc := "(LLadderCalls$Book;I)I" } : Jvm.MethodName)) ∈ lw_all := lw_g (lw_at lw_m4 7 rfl) rfl
theorem q768 : (Jvm.Cond.privateMethod ({ cls := "LadderCalls", name := "roadFrom", desc := "(LLadderCalls$Book;I)I" } : Jvm.MethodName)) ∈ lw_tbl := lw_at lw_m4 8 rfl
theorem q769 : (Jvm.Cond.instanceMethod ({ cls := "LadderCalls", name := "roadFrom", desc := "(LLadderCalls$Book;I)I" } : Jvm.MethodName)) ∈ lw_all := lw_g (lw_at lw_m4 9 rfl) rfl
theorem q770 : (Jvm.Cond.code ({ cls := "LadderCalls", name := "roadFrom", desc := "(LLadderCalls$Book;I)I" } : Jvm.MethodName) prog_1_method_53_code (10 : Nat) (Option.some Jvm.ClassFile.FieldType.int)) ∈ lw_all := lw_g (lw_at lw_m4 10 rfl) rfl
theorem q771 : (Jvm.Cond.methodLink "LadderCalls" (287 : Nat) ({ cls := "LadderCalls$Book", name := "get", desc := "(II)J" } : Jvm.MethodName)) ∈ lw_all := lw_g (lw_at lw_m4 11 rfl) rfl
theorem q786 : (Jvm.Cond.methodLink "LadderCalls" (291 : Nat) ({ cls := "LadderCalls", name := "isInt", desc := "(J)Z" } : Jvm.MethodName)) ∈ lw_all := lw_g (lw_at lw_m4 26 rfl) rfl
theorem q787 : (Jvm.Cond.static ({ cls := "LadderCalls", name := "isInt", desc := "(J)Z" } : Jvm.MethodName)) ∈ lw_all := lw_g (lw_at lw_m4 27 rfl) rfl
theorem q788 : (Jvm.Cond.code ({ cls := "LadderCalls", name := "isInt", desc := "(J)Z" } : Jvm.MethodName) prog_1_method_52_code (2 : Nat) (Option.some Jvm.ClassFile.FieldType.boolean)) ∈ lw_all := lw_g (lw_at lw_m4 28 rfl) rfl
theorem q789 : (Jvm.Cond.methodLink "LadderCalls" (295 : Nat) ({ cls := "LadderCalls", name := "road", desc := "(III)I" } : Jvm.MethodName)) ∈ lw_all := lw_g (lw_at lw_m4 29 rfl) rfl
theorem q791 : (Jvm.Cond.instanceMethod ({ cls := "LadderCalls", name := "calls", desc := "(II)I" } : Jvm.MethodName)) ∈ lw_all := lw_g (lw_at lw_m4 31 rfl) rfl
theorem q792 : (Jvm.Cond.selects "LadderCalls" ({ cls := "LadderCalls", name := "calls", desc := "(II)I" } : Jvm.MethodName) ({ cls := "LadderCalls", name := "calls", desc := "(II)I" } : Jvm.MethodName)) ∈ lw_all := lw_g (lw_at lw_m4 32 rfl) rfl
theorem q793 : (Jvm.Cond.codeWith ({ cls := "LadderCalls", name := "calls", desc := "(II)I" } : Jvm.MethodName) prog_1_method_55_code (9 : Nat) (Option.some Jvm.ClassFile.FieldType.int) [((20 : Nat), (103 : Nat), (106 : Nat), (261 : Nat)), ((20 : Nat), (103 : Nat), (117 : Nat), (263 : Nat))]) ∈ lw_all := lw_g (lw_at lw_m4 33 rfl) rfl
theorem q794 : (Jvm.Cond.methodLink "LadderCalls" (304 : Nat) ({ cls := "LadderCalls$Book", name := "size", desc := "(I)I" } : Jvm.MethodName)) ∈ lw_all := lw_g (lw_at lw_m4 34 rfl) rfl
theorem q810 : (Jvm.Cond.instanceMethod ({ cls := "LadderCalls", name := "about", desc := "(I)I" } : Jvm.MethodName)) ∈ lw_all := lw_g (lw_at lw_m4 50 rfl) rfl
theorem q811 : (Jvm.Cond.selects "LadderCalls" ({ cls := "LadderCalls", name := "about", desc := "(I)I" } : Jvm.MethodName) ({ cls := "LadderCalls", name := "about", desc := "(I)I" } : Jvm.MethodName)) ∈ lw_all := lw_g (lw_at lw_m4 51 rfl) rfl
theorem q812 : (Jvm.Cond.code ({ cls := "LadderCalls", name := "about", desc := "(I)I" } : Jvm.MethodName) prog_1_method_56_code (2 : Nat) (Option.some Jvm.ClassFile.FieldType.int)) ∈ lw_all := lw_g (lw_at lw_m4 52 rfl) rfl
theorem q814 : (Jvm.Cond.instanceMethod ({ cls := "LadderCalls", name := "trace", desc := "()J" } : Jvm.MethodName)) ∈ lw_all := lw_g (lw_at lw_m4 54 rfl) rfl
theorem q815 : (Jvm.Cond.selects "LadderCalls" ({ cls := "LadderCalls", name := "trace", desc := "()J" } : Jvm.MethodName) ({ cls := "LadderCalls", name := "trace", desc := "()J" } : Jvm.MethodName)) ∈ lw_all := lw_g (lw_at lw_m4 55 rfl) rfl
theorem q816 : (Jvm.Cond.code ({ cls := "LadderCalls", name := "trace", desc := "()J" } : Jvm.MethodName) prog_1_method_57_code (1 : Nat) (Option.some Jvm.ClassFile.FieldType.long)) ∈ lw_all := lw_g (lw_at lw_m4 56 rfl) rfl
theorem q818 : (Jvm.Cond.instanceMethod ({ cls := "LadderCalls", name := "status", desc := "()I" } : Jvm.MethodName)) ∈ lw_all := lw_g (lw_at lw_m4 58 rfl) rfl
theorem q819 : (Jvm.Cond.selects "LadderCalls" ({ cls := "LadderCalls", name := "status", desc := "()I" } : Jvm.MethodName) ({ cls := "LadderCalls", name := "status", desc := "()I" } : Jvm.MethodName)) ∈ lw_all := lw_g (lw_at lw_m4 59 rfl) rfl
theorem q820 : (Jvm.Cond.code ({ cls := "LadderCalls", name := "status", desc := "()I" } : Jvm.MethodName) prog_1_method_58_code (1 : Nat) (Option.some Jvm.ClassFile.FieldType.int)) ∈ lw_all := lw_g (lw_at lw_m4 60 rfl) rfl
theorem in_X0 : ∀ w ∈ wsX00, w ∈ lw_all := lw_in wsX00 [171, 173, 175, 177, 179, 181, 183, 185, 187, 189, 191, 193, 195, 197, 199, 201, 203, 205, 207, 209, 211, 213, 215, 217, 219, 221, 223, 225, 227, 229, 231] (by decide +kernel) (by decide +kernel)
