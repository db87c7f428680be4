/-! LadderCallsModel -/
set_option maxRecDepth 100000
def RX5 : String := "LadderCallsModel"
def TX5 : u_T := fun k => match k with
  | 0 => ("LadderCallsModel", "thrown", "I", false)
  | 1 => ("LadderCallsModel", "status", "I", false)
  | 2 => ("LadderCallsModel", "trace", "J", false)
  | 3 => ("LadderCallsModel", "places", "I", false)
  | 4 => ("LadderCallsModel", "roads", "I", false)
  | 5 => ("LadderCallsModel", "roadA", "[I", true)
  | 6 => ("LadderCallsModel", "roadB", "[I", true)
  | 7 => ("LadderCallsModel", "roadLength", "[I", true)
  | 8 => ("LadderCallsModel", "far", "[I", true)
  | 9 => ("LadderCallsModel", "ladders", "I", false)
  | 10 => ("LadderCallsModel", "beginning", "I", false)
  | 11 => ("LadderCallsModel", "kind", "I", false)
  | 12 => ("LadderCallsModel", "at", "[I", true)
  | 13 => ("LadderCallsModel", "sum", "[I", true)
  | 14 => ("LadderCallsModel", "latest", "I", false)
  | 15 => ("LadderCallsModel", "calls", "I", false)
  | 16 => ("LadderCallsModel", "callPlace", "[I", true)
  | 17 => ("LadderCallsModel", "callLadder", "[I", true)
  | 18 => ("LadderCallsModel", "callFar", "[I", true)
  | 19 => ("LadderCallsModel", "callKind", "[I", true)
  | 20 => ("LadderCallsModel", "callFrom", "[I", true)
  | 21 => ("LadderCallsModel", "callLatest", "[I", true)
  | 22 => ("LadderCallsModel", "least", "[I", true)
  | 23 => ("LadderCallsModel", "tried", "[I", true)
  | 24 => ("LadderCallsModel", "hasBook", "[Z", true)
  | 25 => ("LadderCallsModel", "sort", "[I", true)
  | 26 => ("LadderCallsModel", "bookRows", "[I", true)
  | 27 => ("LadderCallsModel", "rowSize", "[I", true)
  | 28 => ("LadderCallsModel", "cells", "[J", true)
  | 29 => ("LadderCallsModel", "rest", "[I", true)
  | 30 => ("LadderCallsModel", "where", "[I", true)
  | _ => ("LadderCallsModel", "ways", "[I", true)
def tyX5 : Nat → FieldType := fun k => match k with
  | 0 => .int
  | 1 => .int
  | 2 => .long
  | 3 => .int
  | 4 => .int
  | 5 => .array .int
  | 6 => .array .int
  | 7 => .array .int
  | 8 => .array .int
  | 9 => .int
  | 10 => .int
  | 11 => .int
  | 12 => .array .int
  | 13 => .array .int
  | 14 => .int
  | 15 => .int
  | 16 => .array .int
  | 17 => .array .int
  | 18 => .array .int
  | 19 => .array .int
  | 20 => .array .int
  | 21 => .array .int
  | 22 => .array .int
  | 23 => .array .int
  | 24 => .array .boolean
  | 25 => .array .int
  | 26 => .array .int
  | 27 => .array .int
  | 28 => .array .long
  | 29 => .array .int
  | 30 => .array .int
  | _ => .array .int
abbrev wsX50 : List Cond := u_ws RX5 TX5 32
set_option maxRecDepth 100000 in
theorem nmX5 : ∀ a, a < 32 → ∀ b, b < 32 → a ≠ b → (TX5 a).2.1 ≠ (TX5 b).2.1 := by decide +kernel
set_option maxRecDepth 100000 in
theorem tyX5_ok : ∀ k, k < 32 → parseFieldDescriptor (TX5 k).2.2.1 = some (tyX5 k) := by decide +kernel
abbrev cX5_init : ByteArray := prog_13_method_1_code
def yX5_init : MethodName := ⟨RX5, "<init>", "()V"⟩
def dkwX5_init_7 : List UInt8 := [181, 0, 72, 42, 6, 188, 10, 181, 0, 75, 177]
abbrev dktX5_init_7 : List UInt8 := dkwX5_init_7 ++ []
def dkwX5_init_6 : List UInt8 := [181, 0, 62, 42, 16, 96, 188, 11, 181, 0, 65, 42, 17, 26, 0, 188, 10, 181, 0, 69, 42, 6, 188, 10]
abbrev dktX5_init_6 : List UInt8 := dkwX5_init_6 ++ dktX5_init_7
def dkwX5_init_5 : List UInt8 := [188, 4, 181, 0, 52, 42, 6, 188, 10, 181, 0, 56, 42, 6, 188, 10, 181, 0, 59, 42, 16, 12, 188, 10]
abbrev dktX5_init_5 : List UInt8 := dkwX5_init_5 ++ dktX5_init_6
def dkwX5_init_4 : List UInt8 := [181, 0, 43, 42, 17, 26, 0, 188, 10, 181, 0, 46, 42, 17, 8, 0, 188, 10, 181, 0, 49, 42, 6]
abbrev dktX5_init_4 : List UInt8 := dkwX5_init_4 ++ dktX5_init_5
def dkwX5_init_3 : List UInt8 := [181, 0, 34, 42, 16, 12, 188, 10, 181, 0, 37, 42, 16, 12, 188, 10, 181, 0, 40, 42, 16, 12, 188, 10]
abbrev dktX5_init_3 : List UInt8 := dkwX5_init_3 ++ dktX5_init_4
def dkwX5_init_2 : List UInt8 := [181, 0, 25, 42, 16, 12, 188, 10, 181, 0, 28, 42, 16, 12, 188, 10, 181, 0, 31, 42, 16, 12, 188, 10]
abbrev dktX5_init_2 : List UInt8 := dkwX5_init_2 ++ dktX5_init_3
def dkwX5_init_1 : List UInt8 := [188, 10, 181, 0, 16, 42, 16, 36, 188, 10, 181, 0, 19, 42, 6, 188, 10, 181, 0, 22, 42, 6, 188, 10]
abbrev dktX5_init_1 : List UInt8 := dkwX5_init_1 ++ dktX5_init_2
def dkwX5_init_0 : List UInt8 := [42, 183, 0, 1, 42, 16, 15, 188, 10, 181, 0, 7, 42, 16, 15, 188, 10, 181, 0, 13, 42, 16, 15]
abbrev dktX5_init_0 : List UInt8 := dkwX5_init_0 ++ dktX5_init_1
theorem dksX5_init_0 : cX5_init.data.toList.drop 0 = dktX5_init_0 := by decide +kernel
theorem dksX5_init_1 : cX5_init.data.toList.drop 23 = dktX5_init_1 := dk_seg dksX5_init_0 23 rfl rfl
theorem dksX5_init_2 : cX5_init.data.toList.drop 47 = dktX5_init_2 := dk_seg dksX5_init_1 24 rfl rfl
theorem dksX5_init_3 : cX5_init.data.toList.drop 71 = dktX5_init_3 := dk_seg dksX5_init_2 24 rfl rfl
theorem dksX5_init_4 : cX5_init.data.toList.drop 95 = dktX5_init_4 := dk_seg dksX5_init_3 24 rfl rfl
theorem dksX5_init_5 : cX5_init.data.toList.drop 118 = dktX5_init_5 := dk_seg dksX5_init_4 23 rfl rfl
theorem dksX5_init_6 : cX5_init.data.toList.drop 142 = dktX5_init_6 := dk_seg dksX5_init_5 24 rfl rfl
theorem dksX5_init_7 : cX5_init.data.toList.drop 166 = dktX5_init_7 := dk_seg dksX5_init_6 24 rfl rfl
theorem dX5_init_0 : decode cX5_init 0 = .ok (.aload_n 0, 1) := dk_42 (dk_at dksX5_init_0 0 rfl rfl)
theorem dX5_init_1 : decode cX5_init 1 = .ok (.invokespecial 1, 3) := dk_183 0 1 (dk_at dksX5_init_0 1 rfl rfl)
theorem dX5_init_4 : decode cX5_init 4 = .ok (.aload_n 0, 1) := dk_42 (dk_at dksX5_init_0 4 rfl rfl)
theorem dX5_init_5 : decode cX5_init 5 = .ok (.bipush 15, 2) := dk_16 15 (dk_at dksX5_init_0 5 rfl rfl)
theorem dX5_init_7 : decode cX5_init 7 = .ok (.newarray .int, 2) := dk_188_10 (dk_at dksX5_init_0 7 rfl rfl)
theorem dX5_init_9 : decode cX5_init 9 = .ok (.putfield 7, 3) := dk_181 0 7 (dk_at dksX5_init_0 9 rfl rfl)
theorem dX5_init_12 : decode cX5_init 12 = .ok (.aload_n 0, 1) := dk_42 (dk_at dksX5_init_0 12 rfl rfl)
theorem dX5_init_13 : decode cX5_init 13 = .ok (.bipush 15, 2) := dk_16 15 (dk_at dksX5_init_0 13 rfl rfl)
theorem dX5_init_15 : decode cX5_init 15 = .ok (.newarray .int, 2) := dk_188_10 (dk_at dksX5_init_0 15 rfl rfl)
theorem dX5_init_17 : decode cX5_init 17 = .ok (.putfield 13, 3) := dk_181 0 13 (dk_at dksX5_init_0 17 rfl rfl)
theorem dX5_init_20 : decode cX5_init 20 = .ok (.aload_n 0, 1) := dk_42 (dk_at dksX5_init_0 20 rfl rfl)
theorem dX5_init_21 : decode cX5_init 21 = .ok (.bipush 15, 2) := dk_16 15 (dk_at dksX5_init_0 21 rfl rfl)
theorem dX5_init_23 : decode cX5_init 23 = .ok (.newarray .int, 2) := dk_188_10 (dk_at dksX5_init_1 0 rfl rfl)
theorem dX5_init_25 : decode cX5_init 25 = .ok (.putfield 16, 3) := dk_181 0 16 (dk_at dksX5_init_1 2 rfl rfl)
theorem dX5_init_28 : decode cX5_init 28 = .ok (.aload_n 0, 1) := dk_42 (dk_at dksX5_init_1 5 rfl rfl)
theorem dX5_init_29 : decode cX5_init 29 = .ok (.bipush 36, 2) := dk_16 36 (dk_at dksX5_init_1 6 rfl rfl)
theorem dX5_init_31 : decode cX5_init 31 = .ok (.newarray .int, 2) := dk_188_10 (dk_at dksX5_init_1 8 rfl rfl)
theorem dX5_init_33 : decode cX5_init 33 = .ok (.putfield 19, 3) := dk_181 0 19 (dk_at dksX5_init_1 10 rfl rfl)
theorem dX5_init_36 : decode cX5_init 36 = .ok (.aload_n 0, 1) := dk_42 (dk_at dksX5_init_1 13 rfl rfl)
theorem dX5_init_37 : decode cX5_init 37 = .ok (.iconst 3, 1) := dk_6 (dk_at dksX5_init_1 14 rfl rfl)
theorem dX5_init_38 : decode cX5_init 38 = .ok (.newarray .int, 2) := dk_188_10 (dk_at dksX5_init_1 15 rfl rfl)
theorem dX5_init_40 : decode cX5_init 40 = .ok (.putfield 22, 3) := dk_181 0 22 (dk_at dksX5_init_1 17 rfl rfl)
theorem dX5_init_43 : decode cX5_init 43 = .ok (.aload_n 0, 1) := dk_42 (dk_at dksX5_init_1 20 rfl rfl)
theorem dX5_init_44 : decode cX5_init 44 = .ok (.iconst 3, 1) := dk_6 (dk_at dksX5_init_1 21 rfl rfl)
theorem dX5_init_45 : decode cX5_init 45 = .ok (.newarray .int, 2) := dk_188_10 (dk_at dksX5_init_1 22 rfl rfl)
theorem dX5_init_47 : decode cX5_init 47 = .ok (.putfield 25, 3) := dk_181 0 25 (dk_at dksX5_init_2 0 rfl rfl)
theorem dX5_init_50 : decode cX5_init 50 = .ok (.aload_n 0, 1) := dk_42 (dk_at dksX5_init_2 3 rfl rfl)
theorem dX5_init_51 : decode cX5_init 51 = .ok (.bipush 12, 2) := dk_16 12 (dk_at dksX5_init_2 4 rfl rfl)
theorem dX5_init_53 : decode cX5_init 53 = .ok (.newarray .int, 2) := dk_188_10 (dk_at dksX5_init_2 6 rfl rfl)
theorem dX5_init_55 : decode cX5_init 55 = .ok (.putfield 28, 3) := dk_181 0 28 (dk_at dksX5_init_2 8 rfl rfl)
theorem dX5_init_58 : decode cX5_init 58 = .ok (.aload_n 0, 1) := dk_42 (dk_at dksX5_init_2 11 rfl rfl)
theorem dX5_init_59 : decode cX5_init 59 = .ok (.bipush 12, 2) := dk_16 12 (dk_at dksX5_init_2 12 rfl rfl)
theorem dX5_init_61 : decode cX5_init 61 = .ok (.newarray .int, 2) := dk_188_10 (dk_at dksX5_init_2 14 rfl rfl)
theorem dX5_init_63 : decode cX5_init 63 = .ok (.putfield 31, 3) := dk_181 0 31 (dk_at dksX5_init_2 16 rfl rfl)
theorem dX5_init_66 : decode cX5_init 66 = .ok (.aload_n 0, 1) := dk_42 (dk_at dksX5_init_2 19 rfl rfl)
theorem dX5_init_67 : decode cX5_init 67 = .ok (.bipush 12, 2) := dk_16 12 (dk_at dksX5_init_2 20 rfl rfl)
theorem dX5_init_69 : decode cX5_init 69 = .ok (.newarray .int, 2) := dk_188_10 (dk_at dksX5_init_2 22 rfl rfl)
theorem dX5_init_71 : decode cX5_init 71 = .ok (.putfield 34, 3) := dk_181 0 34 (dk_at dksX5_init_3 0 rfl rfl)
theorem dX5_init_74 : decode cX5_init 74 = .ok (.aload_n 0, 1) := dk_42 (dk_at dksX5_init_3 3 rfl rfl)
theorem dX5_init_75 : decode cX5_init 75 = .ok (.bipush 12, 2) := dk_16 12 (dk_at dksX5_init_3 4 rfl rfl)
theorem dX5_init_77 : decode cX5_init 77 = .ok (.newarray .int, 2) := dk_188_10 (dk_at dksX5_init_3 6 rfl rfl)
theorem dX5_init_79 : decode cX5_init 79 = .ok (.putfield 37, 3) := dk_181 0 37 (dk_at dksX5_init_3 8 rfl rfl)
theorem dX5_init_82 : decode cX5_init 82 = .ok (.aload_n 0, 1) := dk_42 (dk_at dksX5_init_3 11 rfl rfl)
theorem dX5_init_83 : decode cX5_init 83 = .ok (.bipush 12, 2) := dk_16 12 (dk_at dksX5_init_3 12 rfl rfl)
theorem dX5_init_85 : decode cX5_init 85 = .ok (.newarray .int, 2) := dk_188_10 (dk_at dksX5_init_3 14 rfl rfl)
theorem dX5_init_87 : decode cX5_init 87 = .ok (.putfield 40, 3) := dk_181 0 40 (dk_at dksX5_init_3 16 rfl rfl)
theorem dX5_init_90 : decode cX5_init 90 = .ok (.aload_n 0, 1) := dk_42 (dk_at dksX5_init_3 19 rfl rfl)
theorem dX5_init_91 : decode cX5_init 91 = .ok (.bipush 12, 2) := dk_16 12 (dk_at dksX5_init_3 20 rfl rfl)
theorem dX5_init_93 : decode cX5_init 93 = .ok (.newarray .int, 2) := dk_188_10 (dk_at dksX5_init_3 22 rfl rfl)
theorem dX5_init_95 : decode cX5_init 95 = .ok (.putfield 43, 3) := dk_181 0 43 (dk_at dksX5_init_4 0 rfl rfl)
theorem dX5_init_98 : decode cX5_init 98 = .ok (.aload_n 0, 1) := dk_42 (dk_at dksX5_init_4 3 rfl rfl)
theorem dX5_init_99 : decode cX5_init 99 = .ok (.sipush 6656, 3) := dk_17 26 0 (dk_at dksX5_init_4 4 rfl rfl)
theorem dX5_init_102 : decode cX5_init 102 = .ok (.newarray .int, 2) := dk_188_10 (dk_at dksX5_init_4 7 rfl rfl)
theorem dX5_init_104 : decode cX5_init 104 = .ok (.putfield 46, 3) := dk_181 0 46 (dk_at dksX5_init_4 9 rfl rfl)
theorem dX5_init_107 : decode cX5_init 107 = .ok (.aload_n 0, 1) := dk_42 (dk_at dksX5_init_4 12 rfl rfl)
theorem dX5_init_108 : decode cX5_init 108 = .ok (.sipush 2048, 3) := dk_17 8 0 (dk_at dksX5_init_4 13 rfl rfl)
theorem dX5_init_111 : decode cX5_init 111 = .ok (.newarray .int, 2) := dk_188_10 (dk_at dksX5_init_4 16 rfl rfl)
theorem dX5_init_113 : decode cX5_init 113 = .ok (.putfield 49, 3) := dk_181 0 49 (dk_at dksX5_init_4 18 rfl rfl)
theorem dX5_init_116 : decode cX5_init 116 = .ok (.aload_n 0, 1) := dk_42 (dk_at dksX5_init_4 21 rfl rfl)
theorem dX5_init_117 : decode cX5_init 117 = .ok (.iconst 3, 1) := dk_6 (dk_at dksX5_init_4 22 rfl rfl)
theorem dX5_init_118 : decode cX5_init 118 = .ok (.newarray .boolean, 2) := dk_188_4 (dk_at dksX5_init_5 0 rfl rfl)
theorem dX5_init_120 : decode cX5_init 120 = .ok (.putfield 52, 3) := dk_181 0 52 (dk_at dksX5_init_5 2 rfl rfl)
theorem dX5_init_123 : decode cX5_init 123 = .ok (.aload_n 0, 1) := dk_42 (dk_at dksX5_init_5 5 rfl rfl)
theorem dX5_init_124 : decode cX5_init 124 = .ok (.iconst 3, 1) := dk_6 (dk_at dksX5_init_5 6 rfl rfl)
theorem dX5_init_125 : decode cX5_init 125 = .ok (.newarray .int, 2) := dk_188_10 (dk_at dksX5_init_5 7 rfl rfl)
theorem dX5_init_127 : decode cX5_init 127 = .ok (.putfield 56, 3) := dk_181 0 56 (dk_at dksX5_init_5 9 rfl rfl)
theorem dX5_init_130 : decode cX5_init 130 = .ok (.aload_n 0, 1) := dk_42 (dk_at dksX5_init_5 12 rfl rfl)
theorem dX5_init_131 : decode cX5_init 131 = .ok (.iconst 3, 1) := dk_6 (dk_at dksX5_init_5 13 rfl rfl)
theorem dX5_init_132 : decode cX5_init 132 = .ok (.newarray .int, 2) := dk_188_10 (dk_at dksX5_init_5 14 rfl rfl)
theorem dX5_init_134 : decode cX5_init 134 = .ok (.putfield 59, 3) := dk_181 0 59 (dk_at dksX5_init_5 16 rfl rfl)
theorem dX5_init_137 : decode cX5_init 137 = .ok (.aload_n 0, 1) := dk_42 (dk_at dksX5_init_5 19 rfl rfl)
theorem dX5_init_138 : decode cX5_init 138 = .ok (.bipush 12, 2) := dk_16 12 (dk_at dksX5_init_5 20 rfl rfl)
theorem dX5_init_140 : decode cX5_init 140 = .ok (.newarray .int, 2) := dk_188_10 (dk_at dksX5_init_5 22 rfl rfl)
theorem dX5_init_142 : decode cX5_init 142 = .ok (.putfield 62, 3) := dk_181 0 62 (dk_at dksX5_init_6 0 rfl rfl)
theorem dX5_init_145 : decode cX5_init 145 = .ok (.aload_n 0, 1) := dk_42 (dk_at dksX5_init_6 3 rfl rfl)
theorem dX5_init_146 : decode cX5_init 146 = .ok (.bipush 96, 2) := dk_16 96 (dk_at dksX5_init_6 4 rfl rfl)
theorem dX5_init_148 : decode cX5_init 148 = .ok (.newarray .long, 2) := dk_188_11 (dk_at dksX5_init_6 6 rfl rfl)
theorem dX5_init_150 : decode cX5_init 150 = .ok (.putfield 65, 3) := dk_181 0 65 (dk_at dksX5_init_6 8 rfl rfl)
theorem dX5_init_153 : decode cX5_init 153 = .ok (.aload_n 0, 1) := dk_42 (dk_at dksX5_init_6 11 rfl rfl)
theorem dX5_init_154 : decode cX5_init 154 = .ok (.sipush 6656, 3) := dk_17 26 0 (dk_at dksX5_init_6 12 rfl rfl)
theorem dX5_init_157 : decode cX5_init 157 = .ok (.newarray .int, 2) := dk_188_10 (dk_at dksX5_init_6 15 rfl rfl)
theorem dX5_init_159 : decode cX5_init 159 = .ok (.putfield 69, 3) := dk_181 0 69 (dk_at dksX5_init_6 17 rfl rfl)
theorem dX5_init_162 : decode cX5_init 162 = .ok (.aload_n 0, 1) := dk_42 (dk_at dksX5_init_6 20 rfl rfl)
theorem dX5_init_163 : decode cX5_init 163 = .ok (.iconst 3, 1) := dk_6 (dk_at dksX5_init_6 21 rfl rfl)
theorem dX5_init_164 : decode cX5_init 164 = .ok (.newarray .int, 2) := dk_188_10 (dk_at dksX5_init_6 22 rfl rfl)
theorem dX5_init_166 : decode cX5_init 166 = .ok (.putfield 72, 3) := dk_181 0 72 (dk_at dksX5_init_7 0 rfl rfl)
theorem dX5_init_169 : decode cX5_init 169 = .ok (.aload_n 0, 1) := dk_42 (dk_at dksX5_init_7 3 rfl rfl)
theorem dX5_init_170 : decode cX5_init 170 = .ok (.iconst 3, 1) := dk_6 (dk_at dksX5_init_7 4 rfl rfl)
theorem dX5_init_171 : decode cX5_init 171 = .ok (.newarray .int, 2) := dk_188_10 (dk_at dksX5_init_7 5 rfl rfl)
theorem dX5_init_173 : decode cX5_init 173 = .ok (.putfield 75, 3) := dk_181 0 75 (dk_at dksX5_init_7 7 rfl rfl)
theorem dX5_init_176 : decode cX5_init 176 = .ok (.return_, 1) := dk_177 (dk_at dksX5_init_7 10 rfl rfl)
abbrev cX5_place : ByteArray := prog_13_method_7_code
def yX5_place : MethodName := ⟨RX5, "place", "()I"⟩
def dkwX5_place_1 : List UInt8 := [16, 253, 172, 42, 89, 180, 0, 82, 4, 96, 181, 0, 82, 42, 180, 0, 82, 4, 100, 172]
abbrev dktX5_place_1 : List UInt8 := dkwX5_place_1 ++ []
def dkwX5_place_0 : List UInt8 := [42, 3, 181, 0, 78, 42, 180, 0, 96, 158, 0, 6, 16, 254, 172, 42, 180, 0, 82, 16, 6, 160, 0, 6]
abbrev dktX5_place_0 : List UInt8 := dkwX5_place_0 ++ dktX5_place_1
theorem dksX5_place_0 : cX5_place.data.toList.drop 0 = dktX5_place_0 := by decide +kernel
theorem dksX5_place_1 : cX5_place.data.toList.drop 24 = dktX5_place_1 := dk_seg dksX5_place_0 24 rfl rfl
theorem dX5_place_0 : decode cX5_place 0 = .ok (.aload_n 0, 1) := dk_42 (dk_at dksX5_place_0 0 rfl rfl)
theorem dX5_place_1 : decode cX5_place 1 = .ok (.iconst 0, 1) := dk_3 (dk_at dksX5_place_0 1 rfl rfl)
theorem dX5_place_2 : decode cX5_place 2 = .ok (.putfield 78, 3) := dk_181 0 78 (dk_at dksX5_place_0 2 rfl rfl)
theorem dX5_place_5 : decode cX5_place 5 = .ok (.aload_n 0, 1) := dk_42 (dk_at dksX5_place_0 5 rfl rfl)
theorem dX5_place_6 : decode cX5_place 6 = .ok (.getfield 96, 3) := dk_180 0 96 (dk_at dksX5_place_0 6 rfl rfl)
theorem dX5_place_9 : decode cX5_place 9 = .ok (.ifCond .le 6, 3) := dk_158 0 6 (dk_at dksX5_place_0 9 rfl rfl)
theorem dX5_place_12 : decode cX5_place 12 = .ok (.bipush (-2), 2) := dk_16 254 (dk_at dksX5_place_0 12 rfl rfl)
theorem dX5_place_14 : decode cX5_place 14 = .ok (.ireturn, 1) := dk_172 (dk_at dksX5_place_0 14 rfl rfl)
theorem dX5_place_15 : decode cX5_place 15 = .ok (.aload_n 0, 1) := dk_42 (dk_at dksX5_place_0 15 rfl rfl)
theorem dX5_place_16 : decode cX5_place 16 = .ok (.getfield 82, 3) := dk_180 0 82 (dk_at dksX5_place_0 16 rfl rfl)
theorem dX5_place_19 : decode cX5_place 19 = .ok (.bipush 6, 2) := dk_16 6 (dk_at dksX5_place_0 19 rfl rfl)
theorem dX5_place_21 : decode cX5_place 21 = .ok (.if_icmp .ne 6, 3) := dk_160 0 6 (dk_at dksX5_place_0 21 rfl rfl)
theorem dX5_place_24 : decode cX5_place 24 = .ok (.bipush (-3), 2) := dk_16 253 (dk_at dksX5_place_1 0 rfl rfl)
theorem dX5_place_26 : decode cX5_place 26 = .ok (.ireturn, 1) := dk_172 (dk_at dksX5_place_1 2 rfl rfl)
theorem dX5_place_27 : decode cX5_place 27 = .ok (.aload_n 0, 1) := dk_42 (dk_at dksX5_place_1 3 rfl rfl)
theorem dX5_place_28 : decode cX5_place 28 = .ok (.dup, 1) := dk_89 (dk_at dksX5_place_1 4 rfl rfl)
theorem dX5_place_29 : decode cX5_place 29 = .ok (.getfield 82, 3) := dk_180 0 82 (dk_at dksX5_place_1 5 rfl rfl)
theorem dX5_place_32 : decode cX5_place 32 = .ok (.iconst 1, 1) := dk_4 (dk_at dksX5_place_1 8 rfl rfl)
theorem dX5_place_33 : decode cX5_place 33 = .ok (.iadd, 1) := dk_96 (dk_at dksX5_place_1 9 rfl rfl)
theorem dX5_place_34 : decode cX5_place 34 = .ok (.putfield 82, 3) := dk_181 0 82 (dk_at dksX5_place_1 10 rfl rfl)
theorem dX5_place_37 : decode cX5_place 37 = .ok (.aload_n 0, 1) := dk_42 (dk_at dksX5_place_1 13 rfl rfl)
theorem dX5_place_38 : decode cX5_place 38 = .ok (.getfield 82, 3) := dk_180 0 82 (dk_at dksX5_place_1 14 rfl rfl)
theorem dX5_place_41 : decode cX5_place 41 = .ok (.iconst 1, 1) := dk_4 (dk_at dksX5_place_1 17 rfl rfl)
theorem dX5_place_42 : decode cX5_place 42 = .ok (.isub, 1) := dk_100 (dk_at dksX5_place_1 18 rfl rfl)
theorem dX5_place_43 : decode cX5_place 43 = .ok (.ireturn, 1) := dk_172 (dk_at dksX5_place_1 19 rfl rfl)
abbrev cX5_road : ByteArray := prog_13_method_9_code
def yX5_road : MethodName := ⟨RX5, "road", "(III)I"⟩
def dkwX5_road_0 : List UInt8 := [42, 3, 181, 0, 78, 42, 27, 133, 28, 133, 29, 133, 182, 0, 101, 172]
abbrev dktX5_road_0 : List UInt8 := dkwX5_road_0 ++ []
theorem dksX5_road_0 : cX5_road.data.toList.drop 0 = dktX5_road_0 := by decide +kernel
theorem dX5_road_0 : decode cX5_road 0 = .ok (.aload_n 0, 1) := dk_42 (dk_at dksX5_road_0 0 rfl rfl)
theorem dX5_road_1 : decode cX5_road 1 = .ok (.iconst 0, 1) := dk_3 (dk_at dksX5_road_0 1 rfl rfl)
theorem dX5_road_2 : decode cX5_road 2 = .ok (.putfield 78, 3) := dk_181 0 78 (dk_at dksX5_road_0 2 rfl rfl)
theorem dX5_road_5 : decode cX5_road 5 = .ok (.aload_n 0, 1) := dk_42 (dk_at dksX5_road_0 5 rfl rfl)
theorem dX5_road_6 : decode cX5_road 6 = .ok (.iload_n 1, 1) := dk_27 (dk_at dksX5_road_0 6 rfl rfl)
theorem dX5_road_7 : decode cX5_road 7 = .ok (.i2l, 1) := dk_133 (dk_at dksX5_road_0 7 rfl rfl)
theorem dX5_road_8 : decode cX5_road 8 = .ok (.iload_n 2, 1) := dk_28 (dk_at dksX5_road_0 8 rfl rfl)
theorem dX5_road_9 : decode cX5_road 9 = .ok (.i2l, 1) := dk_133 (dk_at dksX5_road_0 9 rfl rfl)
theorem dX5_road_10 : decode cX5_road 10 = .ok (.iload_n 3, 1) := dk_29 (dk_at dksX5_road_0 10 rfl rfl)
theorem dX5_road_11 : decode cX5_road 11 = .ok (.i2l, 1) := dk_133 (dk_at dksX5_road_0 11 rfl rfl)
theorem dX5_road_12 : decode cX5_road 12 = .ok (.invokevirtual 101, 3) := dk_182 0 101 (dk_at dksX5_road_0 12 rfl rfl)
theorem dX5_road_15 : decode cX5_road 15 = .ok (.ireturn, 1) := dk_172 (dk_at dksX5_road_0 15 rfl rfl)
abbrev cX5_addRoad : ByteArray := prog_13_method_8_code
def yX5_addRoad : MethodName := ⟨RX5, "addRoad", "(JJJ)I"⟩
def dkwX5_addRoad_5 : List UInt8 := [180, 0, 90, 172]
abbrev dktX5_addRoad_5 : List UInt8 := dkwX5_addRoad_5 ++ []
def dkwX5_addRoad_4 : List UInt8 := [180, 0, 16, 42, 180, 0, 90, 22, 5, 136, 79, 42, 89, 180, 0, 90, 4, 96, 181, 0, 90, 42]
abbrev dktX5_addRoad_4 : List UInt8 := dkwX5_addRoad_4 ++ dktX5_addRoad_5
def dkwX5_addRoad_3 : List UInt8 := [42, 180, 0, 7, 42, 180, 0, 90, 31, 136, 79, 42, 180, 0, 13, 42, 180, 0, 90, 33, 136, 79, 42]
abbrev dktX5_addRoad_3 : List UInt8 := dkwX5_addRoad_3 ++ dktX5_addRoad_4
def dkwX5_addRoad_2 : List UInt8 := [2, 172, 42, 180, 0, 96, 158, 0, 6, 16, 254, 172, 42, 180, 0, 90, 16, 15, 160, 0, 6, 16, 253, 172]
abbrev dktX5_addRoad_2 : List UInt8 := dkwX5_addRoad_2 ++ dktX5_addRoad_3
def dkwX5_addRoad_1 : List UInt8 := [184, 0, 85, 153, 0, 21, 31, 33, 148, 153, 0, 15, 22, 5, 10, 20, 0, 99, 184, 0, 85, 154, 0, 5]
abbrev dktX5_addRoad_1 : List UInt8 := dkwX5_addRoad_1 ++ dktX5_addRoad_2
def dkwX5_addRoad_0 : List UInt8 := [31, 9, 42, 180, 0, 82, 4, 100, 133, 184, 0, 85, 153, 0, 36, 33, 9, 42, 180, 0, 82, 4, 100, 133]
abbrev dktX5_addRoad_0 : List UInt8 := dkwX5_addRoad_0 ++ dktX5_addRoad_1
theorem dksX5_addRoad_0 : cX5_addRoad.data.toList.drop 0 = dktX5_addRoad_0 := by decide +kernel
theorem dksX5_addRoad_1 : cX5_addRoad.data.toList.drop 24 = dktX5_addRoad_1 := dk_seg dksX5_addRoad_0 24 rfl rfl
theorem dksX5_addRoad_2 : cX5_addRoad.data.toList.drop 48 = dktX5_addRoad_2 := dk_seg dksX5_addRoad_1 24 rfl rfl
theorem dksX5_addRoad_3 : cX5_addRoad.data.toList.drop 72 = dktX5_addRoad_3 := dk_seg dksX5_addRoad_2 24 rfl rfl
theorem dksX5_addRoad_4 : cX5_addRoad.data.toList.drop 95 = dktX5_addRoad_4 := dk_seg dksX5_addRoad_3 23 rfl rfl
theorem dksX5_addRoad_5 : cX5_addRoad.data.toList.drop 117 = dktX5_addRoad_5 := dk_seg dksX5_addRoad_4 22 rfl rfl
theorem dX5_addRoad_0 : decode cX5_addRoad 0 = .ok (.lload_n 1, 1) := dk_31 (dk_at dksX5_addRoad_0 0 rfl rfl)
theorem dX5_addRoad_1 : decode cX5_addRoad 1 = .ok (.lconst 0, 1) := dk_9 (dk_at dksX5_addRoad_0 1 rfl rfl)
theorem dX5_addRoad_2 : decode cX5_addRoad 2 = .ok (.aload_n 0, 1) := dk_42 (dk_at dksX5_addRoad_0 2 rfl rfl)
theorem dX5_addRoad_3 : decode cX5_addRoad 3 = .ok (.getfield 82, 3) := dk_180 0 82 (dk_at dksX5_addRoad_0 3 rfl rfl)
theorem dX5_addRoad_6 : decode cX5_addRoad 6 = .ok (.iconst 1, 1) := dk_4 (dk_at dksX5_addRoad_0 6 rfl rfl)
theorem dX5_addRoad_7 : decode cX5_addRoad 7 = .ok (.isub, 1) := dk_100 (dk_at dksX5_addRoad_0 7 rfl rfl)
theorem dX5_addRoad_8 : decode cX5_addRoad 8 = .ok (.i2l, 1) := dk_133 (dk_at dksX5_addRoad_0 8 rfl rfl)
theorem dX5_addRoad_9 : decode cX5_addRoad 9 = .ok (.invokestatic 85, 3) := dk_184 0 85 (dk_at dksX5_addRoad_0 9 rfl rfl)
theorem dX5_addRoad_12 : decode cX5_addRoad 12 = .ok (.ifCond .eq 36, 3) := dk_153 0 36 (dk_at dksX5_addRoad_0 12 rfl rfl)
theorem dX5_addRoad_15 : decode cX5_addRoad 15 = .ok (.lload_n 3, 1) := dk_33 (dk_at dksX5_addRoad_0 15 rfl rfl)
theorem dX5_addRoad_16 : decode cX5_addRoad 16 = .ok (.lconst 0, 1) := dk_9 (dk_at dksX5_addRoad_0 16 rfl rfl)
theorem dX5_addRoad_17 : decode cX5_addRoad 17 = .ok (.aload_n 0, 1) := dk_42 (dk_at dksX5_addRoad_0 17 rfl rfl)
theorem dX5_addRoad_18 : decode cX5_addRoad 18 = .ok (.getfield 82, 3) := dk_180 0 82 (dk_at dksX5_addRoad_0 18 rfl rfl)
theorem dX5_addRoad_21 : decode cX5_addRoad 21 = .ok (.iconst 1, 1) := dk_4 (dk_at dksX5_addRoad_0 21 rfl rfl)
theorem dX5_addRoad_22 : decode cX5_addRoad 22 = .ok (.isub, 1) := dk_100 (dk_at dksX5_addRoad_0 22 rfl rfl)
theorem dX5_addRoad_23 : decode cX5_addRoad 23 = .ok (.i2l, 1) := dk_133 (dk_at dksX5_addRoad_0 23 rfl rfl)
theorem dX5_addRoad_24 : decode cX5_addRoad 24 = .ok (.invokestatic 85, 3) := dk_184 0 85 (dk_at dksX5_addRoad_1 0 rfl rfl)
theorem dX5_addRoad_27 : decode cX5_addRoad 27 = .ok (.ifCond .eq 21, 3) := dk_153 0 21 (dk_at dksX5_addRoad_1 3 rfl rfl)
theorem dX5_addRoad_30 : decode cX5_addRoad 30 = .ok (.lload_n 1, 1) := dk_31 (dk_at dksX5_addRoad_1 6 rfl rfl)
theorem dX5_addRoad_31 : decode cX5_addRoad 31 = .ok (.lload_n 3, 1) := dk_33 (dk_at dksX5_addRoad_1 7 rfl rfl)
theorem dX5_addRoad_32 : decode cX5_addRoad 32 = .ok (.lcmp, 1) := dk_148 (dk_at dksX5_addRoad_1 8 rfl rfl)
theorem dX5_addRoad_33 : decode cX5_addRoad 33 = .ok (.ifCond .eq 15, 3) := dk_153 0 15 (dk_at dksX5_addRoad_1 9 rfl rfl)
theorem dX5_addRoad_36 : decode cX5_addRoad 36 = .ok (.lload 5, 2) := dk_22 5 (dk_at dksX5_addRoad_1 12 rfl rfl)
theorem dX5_addRoad_38 : decode cX5_addRoad 38 = .ok (.lconst 1, 1) := dk_10 (dk_at dksX5_addRoad_1 14 rfl rfl)
theorem dX5_addRoad_39 : decode cX5_addRoad 39 = .ok (.ldc2_w 99, 3) := dk_20 0 99 (dk_at dksX5_addRoad_1 15 rfl rfl)
theorem dX5_addRoad_42 : decode cX5_addRoad 42 = .ok (.invokestatic 85, 3) := dk_184 0 85 (dk_at dksX5_addRoad_1 18 rfl rfl)
theorem dX5_addRoad_45 : decode cX5_addRoad 45 = .ok (.ifCond .ne 5, 3) := dk_154 0 5 (dk_at dksX5_addRoad_1 21 rfl rfl)
theorem dX5_addRoad_48 : decode cX5_addRoad 48 = .ok (.iconst (-1), 1) := dk_2 (dk_at dksX5_addRoad_2 0 rfl rfl)
theorem dX5_addRoad_49 : decode cX5_addRoad 49 = .ok (.ireturn, 1) := dk_172 (dk_at dksX5_addRoad_2 1 rfl rfl)
theorem dX5_addRoad_50 : decode cX5_addRoad 50 = .ok (.aload_n 0, 1) := dk_42 (dk_at dksX5_addRoad_2 2 rfl rfl)
theorem dX5_addRoad_51 : decode cX5_addRoad 51 = .ok (.getfield 96, 3) := dk_180 0 96 (dk_at dksX5_addRoad_2 3 rfl rfl)
theorem dX5_addRoad_54 : decode cX5_addRoad 54 = .ok (.ifCond .le 6, 3) := dk_158 0 6 (dk_at dksX5_addRoad_2 6 rfl rfl)
theorem dX5_addRoad_57 : decode cX5_addRoad 57 = .ok (.bipush (-2), 2) := dk_16 254 (dk_at dksX5_addRoad_2 9 rfl rfl)
theorem dX5_addRoad_59 : decode cX5_addRoad 59 = .ok (.ireturn, 1) := dk_172 (dk_at dksX5_addRoad_2 11 rfl rfl)
theorem dX5_addRoad_60 : decode cX5_addRoad 60 = .ok (.aload_n 0, 1) := dk_42 (dk_at dksX5_addRoad_2 12 rfl rfl)
theorem dX5_addRoad_61 : decode cX5_addRoad 61 = .ok (.getfield 90, 3) := dk_180 0 90 (dk_at dksX5_addRoad_2 13 rfl rfl)
theorem dX5_addRoad_64 : decode cX5_addRoad 64 = .ok (.bipush 15, 2) := dk_16 15 (dk_at dksX5_addRoad_2 16 rfl rfl)
theorem dX5_addRoad_66 : decode cX5_addRoad 66 = .ok (.if_icmp .ne 6, 3) := dk_160 0 6 (dk_at dksX5_addRoad_2 18 rfl rfl)
theorem dX5_addRoad_69 : decode cX5_addRoad 69 = .ok (.bipush (-3), 2) := dk_16 253 (dk_at dksX5_addRoad_2 21 rfl rfl)
theorem dX5_addRoad_71 : decode cX5_addRoad 71 = .ok (.ireturn, 1) := dk_172 (dk_at dksX5_addRoad_2 23 rfl rfl)
theorem dX5_addRoad_72 : decode cX5_addRoad 72 = .ok (.aload_n 0, 1) := dk_42 (dk_at dksX5_addRoad_3 0 rfl rfl)
theorem dX5_addRoad_73 : decode cX5_addRoad 73 = .ok (.getfield 7, 3) := dk_180 0 7 (dk_at dksX5_addRoad_3 1 rfl rfl)
theorem dX5_addRoad_76 : decode cX5_addRoad 76 = .ok (.aload_n 0, 1) := dk_42 (dk_at dksX5_addRoad_3 4 rfl rfl)
theorem dX5_addRoad_77 : decode cX5_addRoad 77 = .ok (.getfield 90, 3) := dk_180 0 90 (dk_at dksX5_addRoad_3 5 rfl rfl)
theorem dX5_addRoad_80 : decode cX5_addRoad 80 = .ok (.lload_n 1, 1) := dk_31 (dk_at dksX5_addRoad_3 8 rfl rfl)
theorem dX5_addRoad_81 : decode cX5_addRoad 81 = .ok (.l2i, 1) := dk_136 (dk_at dksX5_addRoad_3 9 rfl rfl)
theorem dX5_addRoad_82 : decode cX5_addRoad 82 = .ok (.iastore, 1) := dk_79 (dk_at dksX5_addRoad_3 10 rfl rfl)
theorem dX5_addRoad_83 : decode cX5_addRoad 83 = .ok (.aload_n 0, 1) := dk_42 (dk_at dksX5_addRoad_3 11 rfl rfl)
theorem dX5_addRoad_84 : decode cX5_addRoad 84 = .ok (.getfield 13, 3) := dk_180 0 13 (dk_at dksX5_addRoad_3 12 rfl rfl)
theorem dX5_addRoad_87 : decode cX5_addRoad 87 = .ok (.aload_n 0, 1) := dk_42 (dk_at dksX5_addRoad_3 15 rfl rfl)
theorem dX5_addRoad_88 : decode cX5_addRoad 88 = .ok (.getfield 90, 3) := dk_180 0 90 (dk_at dksX5_addRoad_3 16 rfl rfl)
theorem dX5_addRoad_91 : decode cX5_addRoad 91 = .ok (.lload_n 3, 1) := dk_33 (dk_at dksX5_addRoad_3 19 rfl rfl)
theorem dX5_addRoad_92 : decode cX5_addRoad 92 = .ok (.l2i, 1) := dk_136 (dk_at dksX5_addRoad_3 20 rfl rfl)
theorem dX5_addRoad_93 : decode cX5_addRoad 93 = .ok (.iastore, 1) := dk_79 (dk_at dksX5_addRoad_3 21 rfl rfl)
theorem dX5_addRoad_94 : decode cX5_addRoad 94 = .ok (.aload_n 0, 1) := dk_42 (dk_at dksX5_addRoad_3 22 rfl rfl)
theorem dX5_addRoad_95 : decode cX5_addRoad 95 = .ok (.getfield 16, 3) := dk_180 0 16 (dk_at dksX5_addRoad_4 0 rfl rfl)
theorem dX5_addRoad_98 : decode cX5_addRoad 98 = .ok (.aload_n 0, 1) := dk_42 (dk_at dksX5_addRoad_4 3 rfl rfl)
theorem dX5_addRoad_99 : decode cX5_addRoad 99 = .ok (.getfield 90, 3) := dk_180 0 90 (dk_at dksX5_addRoad_4 4 rfl rfl)
theorem dX5_addRoad_102 : decode cX5_addRoad 102 = .ok (.lload 5, 2) := dk_22 5 (dk_at dksX5_addRoad_4 7 rfl rfl)
theorem dX5_addRoad_104 : decode cX5_addRoad 104 = .ok (.l2i, 1) := dk_136 (dk_at dksX5_addRoad_4 9 rfl rfl)
theorem dX5_addRoad_105 : decode cX5_addRoad 105 = .ok (.iastore, 1) := dk_79 (dk_at dksX5_addRoad_4 10 rfl rfl)
theorem dX5_addRoad_106 : decode cX5_addRoad 106 = .ok (.aload_n 0, 1) := dk_42 (dk_at dksX5_addRoad_4 11 rfl rfl)
theorem dX5_addRoad_107 : decode cX5_addRoad 107 = .ok (.dup, 1) := dk_89 (dk_at dksX5_addRoad_4 12 rfl rfl)
theorem dX5_addRoad_108 : decode cX5_addRoad 108 = .ok (.getfield 90, 3) := dk_180 0 90 (dk_at dksX5_addRoad_4 13 rfl rfl)
theorem dX5_addRoad_111 : decode cX5_addRoad 111 = .ok (.iconst 1, 1) := dk_4 (dk_at dksX5_addRoad_4 16 rfl rfl)
theorem dX5_addRoad_112 : decode cX5_addRoad 112 = .ok (.iadd, 1) := dk_96 (dk_at dksX5_addRoad_4 17 rfl rfl)
theorem dX5_addRoad_113 : decode cX5_addRoad 113 = .ok (.putfield 90, 3) := dk_181 0 90 (dk_at dksX5_addRoad_4 18 rfl rfl)
theorem dX5_addRoad_116 : decode cX5_addRoad 116 = .ok (.aload_n 0, 1) := dk_42 (dk_at dksX5_addRoad_4 21 rfl rfl)
theorem dX5_addRoad_117 : decode cX5_addRoad 117 = .ok (.getfield 90, 3) := dk_180 0 90 (dk_at dksX5_addRoad_5 0 rfl rfl)
theorem dX5_addRoad_120 : decode cX5_addRoad 120 = .ok (.ireturn, 1) := dk_172 (dk_at dksX5_addRoad_5 3 rfl rfl)
abbrev cX5_in : ByteArray := prog_13_method_3_code
def yX5_in : MethodName := ⟨RX5, "in", "(JJJ)Z"⟩
def dkwX5_in_0 : List UInt8 := [30, 32, 148, 155, 0, 14, 30, 22, 4, 148, 157, 0, 7, 4, 167, 0, 4, 3, 172]
abbrev dktX5_in_0 : List UInt8 := dkwX5_in_0 ++ []
theorem dksX5_in_0 : cX5_in.data.toList.drop 0 = dktX5_in_0 := by decide +kernel
theorem dX5_in_0 : decode cX5_in 0 = .ok (.lload_n 0, 1) := dk_30 (dk_at dksX5_in_0 0 rfl rfl)
theorem dX5_in_1 : decode cX5_in 1 = .ok (.lload_n 2, 1) := dk_32 (dk_at dksX5_in_0 1 rfl rfl)
theorem dX5_in_2 : decode cX5_in 2 = .ok (.lcmp, 1) := dk_148 (dk_at dksX5_in_0 2 rfl rfl)
theorem dX5_in_3 : decode cX5_in 3 = .ok (.ifCond .lt 14, 3) := dk_155 0 14 (dk_at dksX5_in_0 3 rfl rfl)
theorem dX5_in_6 : decode cX5_in 6 = .ok (.lload_n 0, 1) := dk_30 (dk_at dksX5_in_0 6 rfl rfl)
theorem dX5_in_7 : decode cX5_in 7 = .ok (.lload 4, 2) := dk_22 4 (dk_at dksX5_in_0 7 rfl rfl)
theorem dX5_in_9 : decode cX5_in 9 = .ok (.lcmp, 1) := dk_148 (dk_at dksX5_in_0 9 rfl rfl)
theorem dX5_in_10 : decode cX5_in 10 = .ok (.ifCond .gt 7, 3) := dk_157 0 7 (dk_at dksX5_in_0 10 rfl rfl)
theorem dX5_in_13 : decode cX5_in 13 = .ok (.iconst 1, 1) := dk_4 (dk_at dksX5_in_0 13 rfl rfl)
theorem dX5_in_14 : decode cX5_in 14 = .ok (.goto 4, 3) := dk_167 0 4 (dk_at dksX5_in_0 14 rfl rfl)
theorem dX5_in_17 : decode cX5_in 17 = .ok (.iconst 0, 1) := dk_3 (dk_at dksX5_in_0 17 rfl rfl)
theorem dX5_in_18 : decode cX5_in 18 = .ok (.ireturn, 1) := dk_172 (dk_at dksX5_in_0 18 rfl rfl)
abbrev cX5_apart : ByteArray := prog_13_method_10_code
def yX5_apart : MethodName := ⟨RX5, "apart", "(II)I"⟩
def dkwX5_apart_2 : List UInt8 := [42, 180, 0, 19, 16, 6, 27, 104, 28, 96, 46, 172]
abbrev dktX5_apart_2 : List UInt8 := dkwX5_apart_2 ++ []
def dkwX5_apart_1 : List UInt8 := [182, 0, 93, 42, 180, 0, 19, 16, 6, 27, 104, 28, 96, 46, 18, 89, 161, 0, 8, 16, 247, 167, 0, 14]
abbrev dktX5_apart_1 : List UInt8 := dkwX5_apart_1 ++ dktX5_apart_2
def dkwX5_apart_0 : List UInt8 := [42, 3, 181, 0, 78, 42, 27, 182, 0, 105, 153, 0, 11, 42, 28, 182, 0, 105, 154, 0, 5, 2, 172, 42]
abbrev dktX5_apart_0 : List UInt8 := dkwX5_apart_0 ++ dktX5_apart_1
theorem dksX5_apart_0 : cX5_apart.data.toList.drop 0 = dktX5_apart_0 := by decide +kernel
theorem dksX5_apart_1 : cX5_apart.data.toList.drop 24 = dktX5_apart_1 := dk_seg dksX5_apart_0 24 rfl rfl
theorem dksX5_apart_2 : cX5_apart.data.toList.drop 48 = dktX5_apart_2 := dk_seg dksX5_apart_1 24 rfl rfl
theorem dX5_apart_0 : decode cX5_apart 0 = .ok (.aload_n 0, 1) := dk_42 (dk_at dksX5_apart_0 0 rfl rfl)
theorem dX5_apart_1 : decode cX5_apart 1 = .ok (.iconst 0, 1) := dk_3 (dk_at dksX5_apart_0 1 rfl rfl)
theorem dX5_apart_2 : decode cX5_apart 2 = .ok (.putfield 78, 3) := dk_181 0 78 (dk_at dksX5_apart_0 2 rfl rfl)
theorem dX5_apart_5 : decode cX5_apart 5 = .ok (.aload_n 0, 1) := dk_42 (dk_at dksX5_apart_0 5 rfl rfl)
theorem dX5_apart_6 : decode cX5_apart 6 = .ok (.iload_n 1, 1) := dk_27 (dk_at dksX5_apart_0 6 rfl rfl)
theorem dX5_apart_7 : decode cX5_apart 7 = .ok (.invokevirtual 105, 3) := dk_182 0 105 (dk_at dksX5_apart_0 7 rfl rfl)
theorem dX5_apart_10 : decode cX5_apart 10 = .ok (.ifCond .eq 11, 3) := dk_153 0 11 (dk_at dksX5_apart_0 10 rfl rfl)
theorem dX5_apart_13 : decode cX5_apart 13 = .ok (.aload_n 0, 1) := dk_42 (dk_at dksX5_apart_0 13 rfl rfl)
theorem dX5_apart_14 : decode cX5_apart 14 = .ok (.iload_n 2, 1) := dk_28 (dk_at dksX5_apart_0 14 rfl rfl)
theorem dX5_apart_15 : decode cX5_apart 15 = .ok (.invokevirtual 105, 3) := dk_182 0 105 (dk_at dksX5_apart_0 15 rfl rfl)
theorem dX5_apart_18 : decode cX5_apart 18 = .ok (.ifCond .ne 5, 3) := dk_154 0 5 (dk_at dksX5_apart_0 18 rfl rfl)
theorem dX5_apart_21 : decode cX5_apart 21 = .ok (.iconst (-1), 1) := dk_2 (dk_at dksX5_apart_0 21 rfl rfl)
theorem dX5_apart_22 : decode cX5_apart 22 = .ok (.ireturn, 1) := dk_172 (dk_at dksX5_apart_0 22 rfl rfl)
theorem dX5_apart_23 : decode cX5_apart 23 = .ok (.aload_n 0, 1) := dk_42 (dk_at dksX5_apart_0 23 rfl rfl)
theorem dX5_apart_24 : decode cX5_apart 24 = .ok (.invokevirtual 93, 3) := dk_182 0 93 (dk_at dksX5_apart_1 0 rfl rfl)
theorem dX5_apart_27 : decode cX5_apart 27 = .ok (.aload_n 0, 1) := dk_42 (dk_at dksX5_apart_1 3 rfl rfl)
theorem dX5_apart_28 : decode cX5_apart 28 = .ok (.getfield 19, 3) := dk_180 0 19 (dk_at dksX5_apart_1 4 rfl rfl)
theorem dX5_apart_31 : decode cX5_apart 31 = .ok (.bipush 6, 2) := dk_16 6 (dk_at dksX5_apart_1 7 rfl rfl)
theorem dX5_apart_33 : decode cX5_apart 33 = .ok (.iload_n 1, 1) := dk_27 (dk_at dksX5_apart_1 9 rfl rfl)
theorem dX5_apart_34 : decode cX5_apart 34 = .ok (.imul, 1) := dk_104 (dk_at dksX5_apart_1 10 rfl rfl)
theorem dX5_apart_35 : decode cX5_apart 35 = .ok (.iload_n 2, 1) := dk_28 (dk_at dksX5_apart_1 11 rfl rfl)
theorem dX5_apart_36 : decode cX5_apart 36 = .ok (.iadd, 1) := dk_96 (dk_at dksX5_apart_1 12 rfl rfl)
theorem dX5_apart_37 : decode cX5_apart 37 = .ok (.iaload, 1) := dk_46 (dk_at dksX5_apart_1 13 rfl rfl)
theorem dX5_apart_38 : decode cX5_apart 38 = .ok (.ldc 89, 2) := dk_18 89 (dk_at dksX5_apart_1 14 rfl rfl)
theorem dX5_apart_40 : decode cX5_apart 40 = .ok (.if_icmp .lt 8, 3) := dk_161 0 8 (dk_at dksX5_apart_1 16 rfl rfl)
theorem dX5_apart_43 : decode cX5_apart 43 = .ok (.bipush (-9), 2) := dk_16 247 (dk_at dksX5_apart_1 19 rfl rfl)
theorem dX5_apart_45 : decode cX5_apart 45 = .ok (.goto 14, 3) := dk_167 0 14 (dk_at dksX5_apart_1 21 rfl rfl)
theorem dX5_apart_48 : decode cX5_apart 48 = .ok (.aload_n 0, 1) := dk_42 (dk_at dksX5_apart_2 0 rfl rfl)
theorem dX5_apart_49 : decode cX5_apart 49 = .ok (.getfield 19, 3) := dk_180 0 19 (dk_at dksX5_apart_2 1 rfl rfl)
theorem dX5_apart_52 : decode cX5_apart 52 = .ok (.bipush 6, 2) := dk_16 6 (dk_at dksX5_apart_2 4 rfl rfl)
theorem dX5_apart_54 : decode cX5_apart 54 = .ok (.iload_n 1, 1) := dk_27 (dk_at dksX5_apart_2 6 rfl rfl)
theorem dX5_apart_55 : decode cX5_apart 55 = .ok (.imul, 1) := dk_104 (dk_at dksX5_apart_2 7 rfl rfl)
theorem dX5_apart_56 : decode cX5_apart 56 = .ok (.iload_n 2, 1) := dk_28 (dk_at dksX5_apart_2 8 rfl rfl)
theorem dX5_apart_57 : decode cX5_apart 57 = .ok (.iadd, 1) := dk_96 (dk_at dksX5_apart_2 9 rfl rfl)
theorem dX5_apart_58 : decode cX5_apart 58 = .ok (.iaload, 1) := dk_46 (dk_at dksX5_apart_2 10 rfl rfl)
theorem dX5_apart_59 : decode cX5_apart 59 = .ok (.ireturn, 1) := dk_172 (dk_at dksX5_apart_2 11 rfl rfl)
abbrev cX5_isPlace : ByteArray := prog_13_method_4_code
def yX5_isPlace : MethodName := ⟨RX5, "isPlace", "(I)Z"⟩
def dkwX5_isPlace_0 : List UInt8 := [27, 133, 9, 42, 180, 0, 82, 4, 100, 133, 184, 0, 85, 172]
abbrev dktX5_isPlace_0 : List UInt8 := dkwX5_isPlace_0 ++ []
theorem dksX5_isPlace_0 : cX5_isPlace.data.toList.drop 0 = dktX5_isPlace_0 := by decide +kernel
theorem dX5_isPlace_0 : decode cX5_isPlace 0 = .ok (.iload_n 1, 1) := dk_27 (dk_at dksX5_isPlace_0 0 rfl rfl)
theorem dX5_isPlace_1 : decode cX5_isPlace 1 = .ok (.i2l, 1) := dk_133 (dk_at dksX5_isPlace_0 1 rfl rfl)
theorem dX5_isPlace_2 : decode cX5_isPlace 2 = .ok (.lconst 0, 1) := dk_9 (dk_at dksX5_isPlace_0 2 rfl rfl)
theorem dX5_isPlace_3 : decode cX5_isPlace 3 = .ok (.aload_n 0, 1) := dk_42 (dk_at dksX5_isPlace_0 3 rfl rfl)
theorem dX5_isPlace_4 : decode cX5_isPlace 4 = .ok (.getfield 82, 3) := dk_180 0 82 (dk_at dksX5_isPlace_0 4 rfl rfl)
theorem dX5_isPlace_7 : decode cX5_isPlace 7 = .ok (.iconst 1, 1) := dk_4 (dk_at dksX5_isPlace_0 7 rfl rfl)
theorem dX5_isPlace_8 : decode cX5_isPlace 8 = .ok (.isub, 1) := dk_100 (dk_at dksX5_isPlace_0 8 rfl rfl)
theorem dX5_isPlace_9 : decode cX5_isPlace 9 = .ok (.i2l, 1) := dk_133 (dk_at dksX5_isPlace_0 9 rfl rfl)
theorem dX5_isPlace_10 : decode cX5_isPlace 10 = .ok (.invokestatic 85, 3) := dk_184 0 85 (dk_at dksX5_isPlace_0 10 rfl rfl)
theorem dX5_isPlace_13 : decode cX5_isPlace 13 = .ok (.ireturn, 1) := dk_172 (dk_at dksX5_isPlace_0 13 rfl rfl)
abbrev cX5_measures : ByteArray := prog_13_method_5_code
def yX5_measures : MethodName := ⟨RX5, "measures", "()V"⟩
def dkwX5_measures_10 : List UInt8 := [132, 1, 1, 167, 255, 151, 177]
abbrev dktX5_measures_10 : List UInt8 := dkwX5_measures_10 ++ []
def dkwX5_measures_9 : List UInt8 := [180, 0, 19, 16, 6, 28, 104, 29, 96, 46, 79, 132, 3, 1, 167, 255, 179, 132, 2, 1, 167, 255, 165]
abbrev dktX5_measures_9 : List UInt8 := dkwX5_measures_9 ++ dktX5_measures_10
def dkwX5_measures_8 : List UInt8 := [29, 96, 21, 4, 42, 180, 0, 19, 16, 6, 28, 104, 29, 96, 46, 162, 0, 8, 21, 4, 167, 0, 14, 42]
abbrev dktX5_measures_8 : List UInt8 := dkwX5_measures_8 ++ dktX5_measures_9
def dkwX5_measures_7 : List UInt8 := [96, 46, 42, 180, 0, 19, 16, 6, 27, 104, 29, 96, 46, 96, 54, 4, 42, 180, 0, 19, 16, 6, 28, 104]
abbrev dktX5_measures_7 : List UInt8 := dkwX5_measures_7 ++ dktX5_measures_8
def dkwX5_measures_6 : List UInt8 := [61, 28, 16, 6, 162, 0, 91, 3, 62, 29, 16, 6, 162, 0, 77, 42, 180, 0, 19, 16, 6, 28, 104, 27]
abbrev dktX5_measures_6 : List UInt8 := dkwX5_measures_6 ++ dktX5_measures_7
def dkwX5_measures_5 : List UInt8 := [28, 96, 42, 180, 0, 16, 27, 46, 79, 132, 1, 1, 167, 255, 177, 3, 60, 27, 16, 6, 162, 0, 105, 3]
abbrev dktX5_measures_5 : List UInt8 := dkwX5_measures_5 ++ dktX5_measures_6
def dkwX5_measures_4 : List UInt8 := [180, 0, 19, 16, 6, 28, 104, 29, 96, 42, 180, 0, 16, 27, 46, 79, 42, 180, 0, 19, 16, 6, 29, 104]
abbrev dktX5_measures_4 : List UInt8 := dkwX5_measures_4 ++ dktX5_measures_5
def dkwX5_measures_3 : List UInt8 := [27, 46, 62, 42, 180, 0, 16, 27, 46, 42, 180, 0, 19, 16, 6, 28, 104, 29, 96, 46, 162, 0, 37, 42]
abbrev dktX5_measures_3 : List UInt8 := dkwX5_measures_3 ++ dktX5_measures_4
def dkwX5_measures_2 : List UInt8 := [167, 255, 211, 3, 60, 27, 42, 180, 0, 90, 162, 0, 77, 42, 180, 0, 7, 27, 46, 61, 42, 180, 0, 13]
abbrev dktX5_measures_2 : List UInt8 := dkwX5_measures_2 ++ dktX5_measures_3
def dkwX5_measures_1 : List UInt8 := [28, 96, 27, 28, 160, 0, 7, 3, 167, 0, 5, 18, 89, 79, 132, 2, 1, 167, 255, 225, 132, 1, 1]
abbrev dktX5_measures_1 : List UInt8 := dkwX5_measures_1 ++ dktX5_measures_2
def dkwX5_measures_0 : List UInt8 := [3, 60, 27, 16, 6, 162, 0, 45, 3, 61, 28, 16, 6, 162, 0, 31, 42, 180, 0, 19, 16, 6, 27, 104]
abbrev dktX5_measures_0 : List UInt8 := dkwX5_measures_0 ++ dktX5_measures_1
theorem dksX5_measures_0 : cX5_measures.data.toList.drop 0 = dktX5_measures_0 := by decide +kernel
theorem dksX5_measures_1 : cX5_measures.data.toList.drop 24 = dktX5_measures_1 := dk_seg dksX5_measures_0 24 rfl rfl
theorem dksX5_measures_2 : cX5_measures.data.toList.drop 47 = dktX5_measures_2 := dk_seg dksX5_measures_1 23 rfl rfl
theorem dksX5_measures_3 : cX5_measures.data.toList.drop 71 = dktX5_measures_3 := dk_seg dksX5_measures_2 24 rfl rfl
theorem dksX5_measures_4 : cX5_measures.data.toList.drop 95 = dktX5_measures_4 := dk_seg dksX5_measures_3 24 rfl rfl
theorem dksX5_measures_5 : cX5_measures.data.toList.drop 119 = dktX5_measures_5 := dk_seg dksX5_measures_4 24 rfl rfl
theorem dksX5_measures_6 : cX5_measures.data.toList.drop 143 = dktX5_measures_6 := dk_seg dksX5_measures_5 24 rfl rfl
theorem dksX5_measures_7 : cX5_measures.data.toList.drop 167 = dktX5_measures_7 := dk_seg dksX5_measures_6 24 rfl rfl
theorem dksX5_measures_8 : cX5_measures.data.toList.drop 191 = dktX5_measures_8 := dk_seg dksX5_measures_7 24 rfl rfl
theorem dksX5_measures_9 : cX5_measures.data.toList.drop 215 = dktX5_measures_9 := dk_seg dksX5_measures_8 24 rfl rfl
theorem dksX5_measures_10 : cX5_measures.data.toList.drop 238 = dktX5_measures_10 := dk_seg dksX5_measures_9 23 rfl rfl
theorem dX5_measures_0 : decode cX5_measures 0 = .ok (.iconst 0, 1) := dk_3 (dk_at dksX5_measures_0 0 rfl rfl)
theorem dX5_measures_1 : decode cX5_measures 1 = .ok (.istore_n 1, 1) := dk_60 (dk_at dksX5_measures_0 1 rfl rfl)
theorem dX5_measures_2 : decode cX5_measures 2 = .ok (.iload_n 1, 1) := dk_27 (dk_at dksX5_measures_0 2 rfl rfl)
theorem dX5_measures_3 : decode cX5_measures 3 = .ok (.bipush 6, 2) := dk_16 6 (dk_at dksX5_measures_0 3 rfl rfl)
theorem dX5_measures_5 : decode cX5_measures 5 = .ok (.if_icmp .ge 45, 3) := dk_162 0 45 (dk_at dksX5_measures_0 5 rfl rfl)
theorem dX5_measures_8 : decode cX5_measures 8 = .ok (.iconst 0, 1) := dk_3 (dk_at dksX5_measures_0 8 rfl rfl)
theorem dX5_measures_9 : decode cX5_measures 9 = .ok (.istore_n 2, 1) := dk_61 (dk_at dksX5_measures_0 9 rfl rfl)
theorem dX5_measures_10 : decode cX5_measures 10 = .ok (.iload_n 2, 1) := dk_28 (dk_at dksX5_measures_0 10 rfl rfl)
theorem dX5_measures_11 : decode cX5_measures 11 = .ok (.bipush 6, 2) := dk_16 6 (dk_at dksX5_measures_0 11 rfl rfl)
theorem dX5_measures_13 : decode cX5_measures 13 = .ok (.if_icmp .ge 31, 3) := dk_162 0 31 (dk_at dksX5_measures_0 13 rfl rfl)
theorem dX5_measures_16 : decode cX5_measures 16 = .ok (.aload_n 0, 1) := dk_42 (dk_at dksX5_measures_0 16 rfl rfl)
theorem dX5_measures_17 : decode cX5_measures 17 = .ok (.getfield 19, 3) := dk_180 0 19 (dk_at dksX5_measures_0 17 rfl rfl)
theorem dX5_measures_20 : decode cX5_measures 20 = .ok (.bipush 6, 2) := dk_16 6 (dk_at dksX5_measures_0 20 rfl rfl)
theorem dX5_measures_22 : decode cX5_measures 22 = .ok (.iload_n 1, 1) := dk_27 (dk_at dksX5_measures_0 22 rfl rfl)
theorem dX5_measures_23 : decode cX5_measures 23 = .ok (.imul, 1) := dk_104 (dk_at dksX5_measures_0 23 rfl rfl)
theorem dX5_measures_24 : decode cX5_measures 24 = .ok (.iload_n 2, 1) := dk_28 (dk_at dksX5_measures_1 0 rfl rfl)
theorem dX5_measures_25 : decode cX5_measures 25 = .ok (.iadd, 1) := dk_96 (dk_at dksX5_measures_1 1 rfl rfl)
theorem dX5_measures_26 : decode cX5_measures 26 = .ok (.iload_n 1, 1) := dk_27 (dk_at dksX5_measures_1 2 rfl rfl)
theorem dX5_measures_27 : decode cX5_measures 27 = .ok (.iload_n 2, 1) := dk_28 (dk_at dksX5_measures_1 3 rfl rfl)
theorem dX5_measures_28 : decode cX5_measures 28 = .ok (.if_icmp .ne 7, 3) := dk_160 0 7 (dk_at dksX5_measures_1 4 rfl rfl)
theorem dX5_measures_31 : decode cX5_measures 31 = .ok (.iconst 0, 1) := dk_3 (dk_at dksX5_measures_1 7 rfl rfl)
theorem dX5_measures_32 : decode cX5_measures 32 = .ok (.goto 5, 3) := dk_167 0 5 (dk_at dksX5_measures_1 8 rfl rfl)
theorem dX5_measures_35 : decode cX5_measures 35 = .ok (.ldc 89, 2) := dk_18 89 (dk_at dksX5_measures_1 11 rfl rfl)
theorem dX5_measures_37 : decode cX5_measures 37 = .ok (.iastore, 1) := dk_79 (dk_at dksX5_measures_1 13 rfl rfl)
theorem dX5_measures_38 : decode cX5_measures 38 = .ok (.iinc 2 1, 3) := dk_132 2 1 (dk_at dksX5_measures_1 14 rfl rfl)
theorem dX5_measures_41 : decode cX5_measures 41 = .ok (.goto (-31), 3) := dk_167 255 225 (dk_at dksX5_measures_1 17 rfl rfl)
theorem dX5_measures_44 : decode cX5_measures 44 = .ok (.iinc 1 1, 3) := dk_132 1 1 (dk_at dksX5_measures_1 20 rfl rfl)
theorem dX5_measures_47 : decode cX5_measures 47 = .ok (.goto (-45), 3) := dk_167 255 211 (dk_at dksX5_measures_2 0 rfl rfl)
theorem dX5_measures_50 : decode cX5_measures 50 = .ok (.iconst 0, 1) := dk_3 (dk_at dksX5_measures_2 3 rfl rfl)
theorem dX5_measures_51 : decode cX5_measures 51 = .ok (.istore_n 1, 1) := dk_60 (dk_at dksX5_measures_2 4 rfl rfl)
theorem dX5_measures_52 : decode cX5_measures 52 = .ok (.iload_n 1, 1) := dk_27 (dk_at dksX5_measures_2 5 rfl rfl)
theorem dX5_measures_53 : decode cX5_measures 53 = .ok (.aload_n 0, 1) := dk_42 (dk_at dksX5_measures_2 6 rfl rfl)
theorem dX5_measures_54 : decode cX5_measures 54 = .ok (.getfield 90, 3) := dk_180 0 90 (dk_at dksX5_measures_2 7 rfl rfl)
theorem dX5_measures_57 : decode cX5_measures 57 = .ok (.if_icmp .ge 77, 3) := dk_162 0 77 (dk_at dksX5_measures_2 10 rfl rfl)
theorem dX5_measures_60 : decode cX5_measures 60 = .ok (.aload_n 0, 1) := dk_42 (dk_at dksX5_measures_2 13 rfl rfl)
theorem dX5_measures_61 : decode cX5_measures 61 = .ok (.getfield 7, 3) := dk_180 0 7 (dk_at dksX5_measures_2 14 rfl rfl)
theorem dX5_measures_64 : decode cX5_measures 64 = .ok (.iload_n 1, 1) := dk_27 (dk_at dksX5_measures_2 17 rfl rfl)
theorem dX5_measures_65 : decode cX5_measures 65 = .ok (.iaload, 1) := dk_46 (dk_at dksX5_measures_2 18 rfl rfl)
theorem dX5_measures_66 : decode cX5_measures 66 = .ok (.istore_n 2, 1) := dk_61 (dk_at dksX5_measures_2 19 rfl rfl)
theorem dX5_measures_67 : decode cX5_measures 67 = .ok (.aload_n 0, 1) := dk_42 (dk_at dksX5_measures_2 20 rfl rfl)
theorem dX5_measures_68 : decode cX5_measures 68 = .ok (.getfield 13, 3) := dk_180 0 13 (dk_at dksX5_measures_2 21 rfl rfl)
theorem dX5_measures_71 : decode cX5_measures 71 = .ok (.iload_n 1, 1) := dk_27 (dk_at dksX5_measures_3 0 rfl rfl)
theorem dX5_measures_72 : decode cX5_measures 72 = .ok (.iaload, 1) := dk_46 (dk_at dksX5_measures_3 1 rfl rfl)
theorem dX5_measures_73 : decode cX5_measures 73 = .ok (.istore_n 3, 1) := dk_62 (dk_at dksX5_measures_3 2 rfl rfl)
theorem dX5_measures_74 : decode cX5_measures 74 = .ok (.aload_n 0, 1) := dk_42 (dk_at dksX5_measures_3 3 rfl rfl)
theorem dX5_measures_75 : decode cX5_measures 75 = .ok (.getfield 16, 3) := dk_180 0 16 (dk_at dksX5_measures_3 4 rfl rfl)
theorem dX5_measures_78 : decode cX5_measures 78 = .ok (.iload_n 1, 1) := dk_27 (dk_at dksX5_measures_3 7 rfl rfl)
theorem dX5_measures_79 : decode cX5_measures 79 = .ok (.iaload, 1) := dk_46 (dk_at dksX5_measures_3 8 rfl rfl)
theorem dX5_measures_80 : decode cX5_measures 80 = .ok (.aload_n 0, 1) := dk_42 (dk_at dksX5_measures_3 9 rfl rfl)
theorem dX5_measures_81 : decode cX5_measures 81 = .ok (.getfield 19, 3) := dk_180 0 19 (dk_at dksX5_measures_3 10 rfl rfl)
theorem dX5_measures_84 : decode cX5_measures 84 = .ok (.bipush 6, 2) := dk_16 6 (dk_at dksX5_measures_3 13 rfl rfl)
theorem dX5_measures_86 : decode cX5_measures 86 = .ok (.iload_n 2, 1) := dk_28 (dk_at dksX5_measures_3 15 rfl rfl)
theorem dX5_measures_87 : decode cX5_measures 87 = .ok (.imul, 1) := dk_104 (dk_at dksX5_measures_3 16 rfl rfl)
theorem dX5_measures_88 : decode cX5_measures 88 = .ok (.iload_n 3, 1) := dk_29 (dk_at dksX5_measures_3 17 rfl rfl)
theorem dX5_measures_89 : decode cX5_measures 89 = .ok (.iadd, 1) := dk_96 (dk_at dksX5_measures_3 18 rfl rfl)
theorem dX5_measures_90 : decode cX5_measures 90 = .ok (.iaload, 1) := dk_46 (dk_at dksX5_measures_3 19 rfl rfl)
theorem dX5_measures_91 : decode cX5_measures 91 = .ok (.if_icmp .ge 37, 3) := dk_162 0 37 (dk_at dksX5_measures_3 20 rfl rfl)
theorem dX5_measures_94 : decode cX5_measures 94 = .ok (.aload_n 0, 1) := dk_42 (dk_at dksX5_measures_3 23 rfl rfl)
theorem dX5_measures_95 : decode cX5_measures 95 = .ok (.getfield 19, 3) := dk_180 0 19 (dk_at dksX5_measures_4 0 rfl rfl)
theorem dX5_measures_98 : decode cX5_measures 98 = .ok (.bipush 6, 2) := dk_16 6 (dk_at dksX5_measures_4 3 rfl rfl)
theorem dX5_measures_100 : decode cX5_measures 100 = .ok (.iload_n 2, 1) := dk_28 (dk_at dksX5_measures_4 5 rfl rfl)
theorem dX5_measures_101 : decode cX5_measures 101 = .ok (.imul, 1) := dk_104 (dk_at dksX5_measures_4 6 rfl rfl)
theorem dX5_measures_102 : decode cX5_measures 102 = .ok (.iload_n 3, 1) := dk_29 (dk_at dksX5_measures_4 7 rfl rfl)
theorem dX5_measures_103 : decode cX5_measures 103 = .ok (.iadd, 1) := dk_96 (dk_at dksX5_measures_4 8 rfl rfl)
theorem dX5_measures_104 : decode cX5_measures 104 = .ok (.aload_n 0, 1) := dk_42 (dk_at dksX5_measures_4 9 rfl rfl)
theorem dX5_measures_105 : decode cX5_measures 105 = .ok (.getfield 16, 3) := dk_180 0 16 (dk_at dksX5_measures_4 10 rfl rfl)
theorem dX5_measures_108 : decode cX5_measures 108 = .ok (.iload_n 1, 1) := dk_27 (dk_at dksX5_measures_4 13 rfl rfl)
theorem dX5_measures_109 : decode cX5_measures 109 = .ok (.iaload, 1) := dk_46 (dk_at dksX5_measures_4 14 rfl rfl)
theorem dX5_measures_110 : decode cX5_measures 110 = .ok (.iastore, 1) := dk_79 (dk_at dksX5_measures_4 15 rfl rfl)
theorem dX5_measures_111 : decode cX5_measures 111 = .ok (.aload_n 0, 1) := dk_42 (dk_at dksX5_measures_4 16 rfl rfl)
theorem dX5_measures_112 : decode cX5_measures 112 = .ok (.getfield 19, 3) := dk_180 0 19 (dk_at dksX5_measures_4 17 rfl rfl)
theorem dX5_measures_115 : decode cX5_measures 115 = .ok (.bipush 6, 2) := dk_16 6 (dk_at dksX5_measures_4 20 rfl rfl)
theorem dX5_measures_117 : decode cX5_measures 117 = .ok (.iload_n 3, 1) := dk_29 (dk_at dksX5_measures_4 22 rfl rfl)
theorem dX5_measures_118 : decode cX5_measures 118 = .ok (.imul, 1) := dk_104 (dk_at dksX5_measures_4 23 rfl rfl)
theorem dX5_measures_119 : decode cX5_measures 119 = .ok (.iload_n 2, 1) := dk_28 (dk_at dksX5_measures_5 0 rfl rfl)
theorem dX5_measures_120 : decode cX5_measures 120 = .ok (.iadd, 1) := dk_96 (dk_at dksX5_measures_5 1 rfl rfl)
theorem dX5_measures_121 : decode cX5_measures 121 = .ok (.aload_n 0, 1) := dk_42 (dk_at dksX5_measures_5 2 rfl rfl)
theorem dX5_measures_122 : decode cX5_measures 122 = .ok (.getfield 16, 3) := dk_180 0 16 (dk_at dksX5_measures_5 3 rfl rfl)
theorem dX5_measures_125 : decode cX5_measures 125 = .ok (.iload_n 1, 1) := dk_27 (dk_at dksX5_measures_5 6 rfl rfl)
theorem dX5_measures_126 : decode cX5_measures 126 = .ok (.iaload, 1) := dk_46 (dk_at dksX5_measures_5 7 rfl rfl)
theorem dX5_measures_127 : decode cX5_measures 127 = .ok (.iastore, 1) := dk_79 (dk_at dksX5_measures_5 8 rfl rfl)
theorem dX5_measures_128 : decode cX5_measures 128 = .ok (.iinc 1 1, 3) := dk_132 1 1 (dk_at dksX5_measures_5 9 rfl rfl)
theorem dX5_measures_131 : decode cX5_measures 131 = .ok (.goto (-79), 3) := dk_167 255 177 (dk_at dksX5_measures_5 12 rfl rfl)
theorem dX5_measures_134 : decode cX5_measures 134 = .ok (.iconst 0, 1) := dk_3 (dk_at dksX5_measures_5 15 rfl rfl)
theorem dX5_measures_135 : decode cX5_measures 135 = .ok (.istore_n 1, 1) := dk_60 (dk_at dksX5_measures_5 16 rfl rfl)
theorem dX5_measures_136 : decode cX5_measures 136 = .ok (.iload_n 1, 1) := dk_27 (dk_at dksX5_measures_5 17 rfl rfl)
theorem dX5_measures_137 : decode cX5_measures 137 = .ok (.bipush 6, 2) := dk_16 6 (dk_at dksX5_measures_5 18 rfl rfl)
theorem dX5_measures_139 : decode cX5_measures 139 = .ok (.if_icmp .ge 105, 3) := dk_162 0 105 (dk_at dksX5_measures_5 20 rfl rfl)
theorem dX5_measures_142 : decode cX5_measures 142 = .ok (.iconst 0, 1) := dk_3 (dk_at dksX5_measures_5 23 rfl rfl)
theorem dX5_measures_143 : decode cX5_measures 143 = .ok (.istore_n 2, 1) := dk_61 (dk_at dksX5_measures_6 0 rfl rfl)
theorem dX5_measures_144 : decode cX5_measures 144 = .ok (.iload_n 2, 1) := dk_28 (dk_at dksX5_measures_6 1 rfl rfl)
theorem dX5_measures_145 : decode cX5_measures 145 = .ok (.bipush 6, 2) := dk_16 6 (dk_at dksX5_measures_6 2 rfl rfl)
theorem dX5_measures_147 : decode cX5_measures 147 = .ok (.if_icmp .ge 91, 3) := dk_162 0 91 (dk_at dksX5_measures_6 4 rfl rfl)
theorem dX5_measures_150 : decode cX5_measures 150 = .ok (.iconst 0, 1) := dk_3 (dk_at dksX5_measures_6 7 rfl rfl)
theorem dX5_measures_151 : decode cX5_measures 151 = .ok (.istore_n 3, 1) := dk_62 (dk_at dksX5_measures_6 8 rfl rfl)
theorem dX5_measures_152 : decode cX5_measures 152 = .ok (.iload_n 3, 1) := dk_29 (dk_at dksX5_measures_6 9 rfl rfl)
theorem dX5_measures_153 : decode cX5_measures 153 = .ok (.bipush 6, 2) := dk_16 6 (dk_at dksX5_measures_6 10 rfl rfl)
theorem dX5_measures_155 : decode cX5_measures 155 = .ok (.if_icmp .ge 77, 3) := dk_162 0 77 (dk_at dksX5_measures_6 12 rfl rfl)
theorem dX5_measures_158 : decode cX5_measures 158 = .ok (.aload_n 0, 1) := dk_42 (dk_at dksX5_measures_6 15 rfl rfl)
theorem dX5_measures_159 : decode cX5_measures 159 = .ok (.getfield 19, 3) := dk_180 0 19 (dk_at dksX5_measures_6 16 rfl rfl)
theorem dX5_measures_162 : decode cX5_measures 162 = .ok (.bipush 6, 2) := dk_16 6 (dk_at dksX5_measures_6 19 rfl rfl)
theorem dX5_measures_164 : decode cX5_measures 164 = .ok (.iload_n 2, 1) := dk_28 (dk_at dksX5_measures_6 21 rfl rfl)
theorem dX5_measures_165 : decode cX5_measures 165 = .ok (.imul, 1) := dk_104 (dk_at dksX5_measures_6 22 rfl rfl)
theorem dX5_measures_166 : decode cX5_measures 166 = .ok (.iload_n 1, 1) := dk_27 (dk_at dksX5_measures_6 23 rfl rfl)
theorem dX5_measures_167 : decode cX5_measures 167 = .ok (.iadd, 1) := dk_96 (dk_at dksX5_measures_7 0 rfl rfl)
theorem dX5_measures_168 : decode cX5_measures 168 = .ok (.iaload, 1) := dk_46 (dk_at dksX5_measures_7 1 rfl rfl)
theorem dX5_measures_169 : decode cX5_measures 169 = .ok (.aload_n 0, 1) := dk_42 (dk_at dksX5_measures_7 2 rfl rfl)
theorem dX5_measures_170 : decode cX5_measures 170 = .ok (.getfield 19, 3) := dk_180 0 19 (dk_at dksX5_measures_7 3 rfl rfl)
theorem dX5_measures_173 : decode cX5_measures 173 = .ok (.bipush 6, 2) := dk_16 6 (dk_at dksX5_measures_7 6 rfl rfl)
theorem dX5_measures_175 : decode cX5_measures 175 = .ok (.iload_n 1, 1) := dk_27 (dk_at dksX5_measures_7 8 rfl rfl)
theorem dX5_measures_176 : decode cX5_measures 176 = .ok (.imul, 1) := dk_104 (dk_at dksX5_measures_7 9 rfl rfl)
theorem dX5_measures_177 : decode cX5_measures 177 = .ok (.iload_n 3, 1) := dk_29 (dk_at dksX5_measures_7 10 rfl rfl)
theorem dX5_measures_178 : decode cX5_measures 178 = .ok (.iadd, 1) := dk_96 (dk_at dksX5_measures_7 11 rfl rfl)
theorem dX5_measures_179 : decode cX5_measures 179 = .ok (.iaload, 1) := dk_46 (dk_at dksX5_measures_7 12 rfl rfl)
theorem dX5_measures_180 : decode cX5_measures 180 = .ok (.iadd, 1) := dk_96 (dk_at dksX5_measures_7 13 rfl rfl)
theorem dX5_measures_181 : decode cX5_measures 181 = .ok (.istore 4, 2) := dk_54 4 (dk_at dksX5_measures_7 14 rfl rfl)
theorem dX5_measures_183 : decode cX5_measures 183 = .ok (.aload_n 0, 1) := dk_42 (dk_at dksX5_measures_7 16 rfl rfl)
theorem dX5_measures_184 : decode cX5_measures 184 = .ok (.getfield 19, 3) := dk_180 0 19 (dk_at dksX5_measures_7 17 rfl rfl)
theorem dX5_measures_187 : decode cX5_measures 187 = .ok (.bipush 6, 2) := dk_16 6 (dk_at dksX5_measures_7 20 rfl rfl)
theorem dX5_measures_189 : decode cX5_measures 189 = .ok (.iload_n 2, 1) := dk_28 (dk_at dksX5_measures_7 22 rfl rfl)
theorem dX5_measures_190 : decode cX5_measures 190 = .ok (.imul, 1) := dk_104 (dk_at dksX5_measures_7 23 rfl rfl)
theorem dX5_measures_191 : decode cX5_measures 191 = .ok (.iload_n 3, 1) := dk_29 (dk_at dksX5_measures_8 0 rfl rfl)
theorem dX5_measures_192 : decode cX5_measures 192 = .ok (.iadd, 1) := dk_96 (dk_at dksX5_measures_8 1 rfl rfl)
theorem dX5_measures_193 : decode cX5_measures 193 = .ok (.iload 4, 2) := dk_21 4 (dk_at dksX5_measures_8 2 rfl rfl)
theorem dX5_measures_195 : decode cX5_measures 195 = .ok (.aload_n 0, 1) := dk_42 (dk_at dksX5_measures_8 4 rfl rfl)
theorem dX5_measures_196 : decode cX5_measures 196 = .ok (.getfield 19, 3) := dk_180 0 19 (dk_at dksX5_measures_8 5 rfl rfl)
theorem dX5_measures_199 : decode cX5_measures 199 = .ok (.bipush 6, 2) := dk_16 6 (dk_at dksX5_measures_8 8 rfl rfl)
theorem dX5_measures_201 : decode cX5_measures 201 = .ok (.iload_n 2, 1) := dk_28 (dk_at dksX5_measures_8 10 rfl rfl)
theorem dX5_measures_202 : decode cX5_measures 202 = .ok (.imul, 1) := dk_104 (dk_at dksX5_measures_8 11 rfl rfl)
theorem dX5_measures_203 : decode cX5_measures 203 = .ok (.iload_n 3, 1) := dk_29 (dk_at dksX5_measures_8 12 rfl rfl)
theorem dX5_measures_204 : decode cX5_measures 204 = .ok (.iadd, 1) := dk_96 (dk_at dksX5_measures_8 13 rfl rfl)
theorem dX5_measures_205 : decode cX5_measures 205 = .ok (.iaload, 1) := dk_46 (dk_at dksX5_measures_8 14 rfl rfl)
theorem dX5_measures_206 : decode cX5_measures 206 = .ok (.if_icmp .ge 8, 3) := dk_162 0 8 (dk_at dksX5_measures_8 15 rfl rfl)
theorem dX5_measures_209 : decode cX5_measures 209 = .ok (.iload 4, 2) := dk_21 4 (dk_at dksX5_measures_8 18 rfl rfl)
theorem dX5_measures_211 : decode cX5_measures 211 = .ok (.goto 14, 3) := dk_167 0 14 (dk_at dksX5_measures_8 20 rfl rfl)
theorem dX5_measures_214 : decode cX5_measures 214 = .ok (.aload_n 0, 1) := dk_42 (dk_at dksX5_measures_8 23 rfl rfl)
theorem dX5_measures_215 : decode cX5_measures 215 = .ok (.getfield 19, 3) := dk_180 0 19 (dk_at dksX5_measures_9 0 rfl rfl)
theorem dX5_measures_218 : decode cX5_measures 218 = .ok (.bipush 6, 2) := dk_16 6 (dk_at dksX5_measures_9 3 rfl rfl)
theorem dX5_measures_220 : decode cX5_measures 220 = .ok (.iload_n 2, 1) := dk_28 (dk_at dksX5_measures_9 5 rfl rfl)
theorem dX5_measures_221 : decode cX5_measures 221 = .ok (.imul, 1) := dk_104 (dk_at dksX5_measures_9 6 rfl rfl)
theorem dX5_measures_222 : decode cX5_measures 222 = .ok (.iload_n 3, 1) := dk_29 (dk_at dksX5_measures_9 7 rfl rfl)
theorem dX5_measures_223 : decode cX5_measures 223 = .ok (.iadd, 1) := dk_96 (dk_at dksX5_measures_9 8 rfl rfl)
theorem dX5_measures_224 : decode cX5_measures 224 = .ok (.iaload, 1) := dk_46 (dk_at dksX5_measures_9 9 rfl rfl)
theorem dX5_measures_225 : decode cX5_measures 225 = .ok (.iastore, 1) := dk_79 (dk_at dksX5_measures_9 10 rfl rfl)
theorem dX5_measures_226 : decode cX5_measures 226 = .ok (.iinc 3 1, 3) := dk_132 3 1 (dk_at dksX5_measures_9 11 rfl rfl)
theorem dX5_measures_229 : decode cX5_measures 229 = .ok (.goto (-77), 3) := dk_167 255 179 (dk_at dksX5_measures_9 14 rfl rfl)
theorem dX5_measures_232 : decode cX5_measures 232 = .ok (.iinc 2 1, 3) := dk_132 2 1 (dk_at dksX5_measures_9 17 rfl rfl)
theorem dX5_measures_235 : decode cX5_measures 235 = .ok (.goto (-91), 3) := dk_167 255 165 (dk_at dksX5_measures_9 20 rfl rfl)
theorem dX5_measures_238 : decode cX5_measures 238 = .ok (.iinc 1 1, 3) := dk_132 1 1 (dk_at dksX5_measures_10 0 rfl rfl)
theorem dX5_measures_241 : decode cX5_measures 241 = .ok (.goto (-105), 3) := dk_167 255 151 (dk_at dksX5_measures_10 3 rfl rfl)
theorem dX5_measures_244 : decode cX5_measures 244 = .ok (.return_, 1) := dk_177 (dk_at dksX5_measures_10 6 rfl rfl)
abbrev cX5_way : ByteArray := prog_13_method_11_code
def yX5_way : MethodName := ⟨RX5, "way", "(II)I"⟩
def dkwX5_way_8 : List UInt8 := [21, 7, 167, 0, 4, 29, 62, 132, 5, 1, 167, 255, 128, 132, 4, 1, 167, 255, 94, 29, 172]
abbrev dktX5_way_8 : List UInt8 := dkwX5_way_8 ++ []
def dkwX5_way_7 : List UInt8 := [167, 0, 4, 3, 54, 8, 21, 8, 153, 0, 20, 29, 16, 247, 159, 0, 9, 21, 7, 29, 162, 0, 8]
abbrev dktX5_way_7 : List UInt8 := dkwX5_way_7 ++ dktX5_way_8
def dkwX5_way_6 : List UInt8 := [21, 7, 104, 28, 96, 46, 96, 42, 180, 0, 19, 16, 6, 27, 104, 28, 96, 46, 160, 0, 7, 4]
abbrev dktX5_way_6 : List UInt8 := dkwX5_way_6 ++ dktX5_way_7
def dkwX5_way_5 : List UInt8 := [21, 4, 46, 54, 7, 21, 6, 27, 160, 0, 41, 42, 180, 0, 16, 21, 4, 46, 42, 180, 0, 19, 16, 6]
abbrev dktX5_way_5 : List UInt8 := dkwX5_way_5 ++ dktX5_way_6
def dkwX5_way_4 : List UInt8 := [21, 4, 46, 54, 6, 21, 5, 154, 0, 13, 42, 180, 0, 13, 21, 4, 46, 167, 0, 10, 42, 180, 0, 7]
abbrev dktX5_way_4 : List UInt8 := dkwX5_way_4 ++ dktX5_way_5
def dkwX5_way_3 : List UInt8 := [5, 162, 0, 128, 21, 5, 154, 0, 13, 42, 180, 0, 7, 21, 4, 46, 167, 0, 10, 42, 180, 0, 13]
abbrev dktX5_way_3 : List UInt8 := dkwX5_way_3 ++ dktX5_way_4
def dkwX5_way_2 : List UInt8 := [162, 0, 159, 42, 180, 0, 19, 16, 6, 27, 104, 28, 96, 46, 18, 89, 162, 0, 143, 3, 54, 5, 21, 5]
abbrev dktX5_way_2 : List UInt8 := dkwX5_way_2 ++ dktX5_way_3
def dkwX5_way_1 : List UInt8 := [182, 0, 93, 27, 28, 160, 0, 5, 28, 172, 16, 247, 62, 3, 54, 4, 21, 4, 42, 180, 0, 90]
abbrev dktX5_way_1 : List UInt8 := dkwX5_way_1 ++ dktX5_way_2
def dkwX5_way_0 : List UInt8 := [42, 3, 181, 0, 78, 42, 27, 182, 0, 105, 153, 0, 11, 42, 28, 182, 0, 105, 154, 0, 5, 2, 172, 42]
abbrev dktX5_way_0 : List UInt8 := dkwX5_way_0 ++ dktX5_way_1
theorem dksX5_way_0 : cX5_way.data.toList.drop 0 = dktX5_way_0 := by decide +kernel
theorem dksX5_way_1 : cX5_way.data.toList.drop 24 = dktX5_way_1 := dk_seg dksX5_way_0 24 rfl rfl
theorem dksX5_way_2 : cX5_way.data.toList.drop 46 = dktX5_way_2 := dk_seg dksX5_way_1 22 rfl rfl
theorem dksX5_way_3 : cX5_way.data.toList.drop 70 = dktX5_way_3 := dk_seg dksX5_way_2 24 rfl rfl
theorem dksX5_way_4 : cX5_way.data.toList.drop 93 = dktX5_way_4 := dk_seg dksX5_way_3 23 rfl rfl
theorem dksX5_way_5 : cX5_way.data.toList.drop 117 = dktX5_way_5 := dk_seg dksX5_way_4 24 rfl rfl
theorem dksX5_way_6 : cX5_way.data.toList.drop 141 = dktX5_way_6 := dk_seg dksX5_way_5 24 rfl rfl
theorem dksX5_way_7 : cX5_way.data.toList.drop 163 = dktX5_way_7 := dk_seg dksX5_way_6 22 rfl rfl
theorem dksX5_way_8 : cX5_way.data.toList.drop 186 = dktX5_way_8 := dk_seg dksX5_way_7 23 rfl rfl
theorem dX5_way_0 : decode cX5_way 0 = .ok (.aload_n 0, 1) := dk_42 (dk_at dksX5_way_0 0 rfl rfl)
theorem dX5_way_1 : decode cX5_way 1 = .ok (.iconst 0, 1) := dk_3 (dk_at dksX5_way_0 1 rfl rfl)
theorem dX5_way_2 : decode cX5_way 2 = .ok (.putfield 78, 3) := dk_181 0 78 (dk_at dksX5_way_0 2 rfl rfl)
theorem dX5_way_5 : decode cX5_way 5 = .ok (.aload_n 0, 1) := dk_42 (dk_at dksX5_way_0 5 rfl rfl)
theorem dX5_way_6 : decode cX5_way 6 = .ok (.iload_n 1, 1) := dk_27 (dk_at dksX5_way_0 6 rfl rfl)
theorem dX5_way_7 : decode cX5_way 7 = .ok (.invokevirtual 105, 3) := dk_182 0 105 (dk_at dksX5_way_0 7 rfl rfl)
theorem dX5_way_10 : decode cX5_way 10 = .ok (.ifCond .eq 11, 3) := dk_153 0 11 (dk_at dksX5_way_0 10 rfl rfl)
theorem dX5_way_13 : decode cX5_way 13 = .ok (.aload_n 0, 1) := dk_42 (dk_at dksX5_way_0 13 rfl rfl)
theorem dX5_way_14 : decode cX5_way 14 = .ok (.iload_n 2, 1) := dk_28 (dk_at dksX5_way_0 14 rfl rfl)
theorem dX5_way_15 : decode cX5_way 15 = .ok (.invokevirtual 105, 3) := dk_182 0 105 (dk_at dksX5_way_0 15 rfl rfl)
theorem dX5_way_18 : decode cX5_way 18 = .ok (.ifCond .ne 5, 3) := dk_154 0 5 (dk_at dksX5_way_0 18 rfl rfl)
theorem dX5_way_21 : decode cX5_way 21 = .ok (.iconst (-1), 1) := dk_2 (dk_at dksX5_way_0 21 rfl rfl)
theorem dX5_way_22 : decode cX5_way 22 = .ok (.ireturn, 1) := dk_172 (dk_at dksX5_way_0 22 rfl rfl)
theorem dX5_way_23 : decode cX5_way 23 = .ok (.aload_n 0, 1) := dk_42 (dk_at dksX5_way_0 23 rfl rfl)
theorem dX5_way_24 : decode cX5_way 24 = .ok (.invokevirtual 93, 3) := dk_182 0 93 (dk_at dksX5_way_1 0 rfl rfl)
theorem dX5_way_27 : decode cX5_way 27 = .ok (.iload_n 1, 1) := dk_27 (dk_at dksX5_way_1 3 rfl rfl)
theorem dX5_way_28 : decode cX5_way 28 = .ok (.iload_n 2, 1) := dk_28 (dk_at dksX5_way_1 4 rfl rfl)
theorem dX5_way_29 : decode cX5_way 29 = .ok (.if_icmp .ne 5, 3) := dk_160 0 5 (dk_at dksX5_way_1 5 rfl rfl)
theorem dX5_way_32 : decode cX5_way 32 = .ok (.iload_n 2, 1) := dk_28 (dk_at dksX5_way_1 8 rfl rfl)
theorem dX5_way_33 : decode cX5_way 33 = .ok (.ireturn, 1) := dk_172 (dk_at dksX5_way_1 9 rfl rfl)
theorem dX5_way_34 : decode cX5_way 34 = .ok (.bipush (-9), 2) := dk_16 247 (dk_at dksX5_way_1 10 rfl rfl)
theorem dX5_way_36 : decode cX5_way 36 = .ok (.istore_n 3, 1) := dk_62 (dk_at dksX5_way_1 12 rfl rfl)
theorem dX5_way_37 : decode cX5_way 37 = .ok (.iconst 0, 1) := dk_3 (dk_at dksX5_way_1 13 rfl rfl)
theorem dX5_way_38 : decode cX5_way 38 = .ok (.istore 4, 2) := dk_54 4 (dk_at dksX5_way_1 14 rfl rfl)
theorem dX5_way_40 : decode cX5_way 40 = .ok (.iload 4, 2) := dk_21 4 (dk_at dksX5_way_1 16 rfl rfl)
theorem dX5_way_42 : decode cX5_way 42 = .ok (.aload_n 0, 1) := dk_42 (dk_at dksX5_way_1 18 rfl rfl)
theorem dX5_way_43 : decode cX5_way 43 = .ok (.getfield 90, 3) := dk_180 0 90 (dk_at dksX5_way_1 19 rfl rfl)
theorem dX5_way_46 : decode cX5_way 46 = .ok (.if_icmp .ge 159, 3) := dk_162 0 159 (dk_at dksX5_way_2 0 rfl rfl)
theorem dX5_way_49 : decode cX5_way 49 = .ok (.aload_n 0, 1) := dk_42 (dk_at dksX5_way_2 3 rfl rfl)
theorem dX5_way_50 : decode cX5_way 50 = .ok (.getfield 19, 3) := dk_180 0 19 (dk_at dksX5_way_2 4 rfl rfl)
theorem dX5_way_53 : decode cX5_way 53 = .ok (.bipush 6, 2) := dk_16 6 (dk_at dksX5_way_2 7 rfl rfl)
theorem dX5_way_55 : decode cX5_way 55 = .ok (.iload_n 1, 1) := dk_27 (dk_at dksX5_way_2 9 rfl rfl)
theorem dX5_way_56 : decode cX5_way 56 = .ok (.imul, 1) := dk_104 (dk_at dksX5_way_2 10 rfl rfl)
theorem dX5_way_57 : decode cX5_way 57 = .ok (.iload_n 2, 1) := dk_28 (dk_at dksX5_way_2 11 rfl rfl)
theorem dX5_way_58 : decode cX5_way 58 = .ok (.iadd, 1) := dk_96 (dk_at dksX5_way_2 12 rfl rfl)
theorem dX5_way_59 : decode cX5_way 59 = .ok (.iaload, 1) := dk_46 (dk_at dksX5_way_2 13 rfl rfl)
theorem dX5_way_60 : decode cX5_way 60 = .ok (.ldc 89, 2) := dk_18 89 (dk_at dksX5_way_2 14 rfl rfl)
theorem dX5_way_62 : decode cX5_way 62 = .ok (.if_icmp .ge 143, 3) := dk_162 0 143 (dk_at dksX5_way_2 16 rfl rfl)
theorem dX5_way_65 : decode cX5_way 65 = .ok (.iconst 0, 1) := dk_3 (dk_at dksX5_way_2 19 rfl rfl)
theorem dX5_way_66 : decode cX5_way 66 = .ok (.istore 5, 2) := dk_54 5 (dk_at dksX5_way_2 20 rfl rfl)
theorem dX5_way_68 : decode cX5_way 68 = .ok (.iload 5, 2) := dk_21 5 (dk_at dksX5_way_2 22 rfl rfl)
theorem dX5_way_70 : decode cX5_way 70 = .ok (.iconst 2, 1) := dk_5 (dk_at dksX5_way_3 0 rfl rfl)
theorem dX5_way_71 : decode cX5_way 71 = .ok (.if_icmp .ge 128, 3) := dk_162 0 128 (dk_at dksX5_way_3 1 rfl rfl)
theorem dX5_way_74 : decode cX5_way 74 = .ok (.iload 5, 2) := dk_21 5 (dk_at dksX5_way_3 4 rfl rfl)
theorem dX5_way_76 : decode cX5_way 76 = .ok (.ifCond .ne 13, 3) := dk_154 0 13 (dk_at dksX5_way_3 6 rfl rfl)
theorem dX5_way_79 : decode cX5_way 79 = .ok (.aload_n 0, 1) := dk_42 (dk_at dksX5_way_3 9 rfl rfl)
theorem dX5_way_80 : decode cX5_way 80 = .ok (.getfield 7, 3) := dk_180 0 7 (dk_at dksX5_way_3 10 rfl rfl)
theorem dX5_way_83 : decode cX5_way 83 = .ok (.iload 4, 2) := dk_21 4 (dk_at dksX5_way_3 13 rfl rfl)
theorem dX5_way_85 : decode cX5_way 85 = .ok (.iaload, 1) := dk_46 (dk_at dksX5_way_3 15 rfl rfl)
theorem dX5_way_86 : decode cX5_way 86 = .ok (.goto 10, 3) := dk_167 0 10 (dk_at dksX5_way_3 16 rfl rfl)
theorem dX5_way_89 : decode cX5_way 89 = .ok (.aload_n 0, 1) := dk_42 (dk_at dksX5_way_3 19 rfl rfl)
theorem dX5_way_90 : decode cX5_way 90 = .ok (.getfield 13, 3) := dk_180 0 13 (dk_at dksX5_way_3 20 rfl rfl)
theorem dX5_way_93 : decode cX5_way 93 = .ok (.iload 4, 2) := dk_21 4 (dk_at dksX5_way_4 0 rfl rfl)
theorem dX5_way_95 : decode cX5_way 95 = .ok (.iaload, 1) := dk_46 (dk_at dksX5_way_4 2 rfl rfl)
theorem dX5_way_96 : decode cX5_way 96 = .ok (.istore 6, 2) := dk_54 6 (dk_at dksX5_way_4 3 rfl rfl)
theorem dX5_way_98 : decode cX5_way 98 = .ok (.iload 5, 2) := dk_21 5 (dk_at dksX5_way_4 5 rfl rfl)
theorem dX5_way_100 : decode cX5_way 100 = .ok (.ifCond .ne 13, 3) := dk_154 0 13 (dk_at dksX5_way_4 7 rfl rfl)
theorem dX5_way_103 : decode cX5_way 103 = .ok (.aload_n 0, 1) := dk_42 (dk_at dksX5_way_4 10 rfl rfl)
theorem dX5_way_104 : decode cX5_way 104 = .ok (.getfield 13, 3) := dk_180 0 13 (dk_at dksX5_way_4 11 rfl rfl)
theorem dX5_way_107 : decode cX5_way 107 = .ok (.iload 4, 2) := dk_21 4 (dk_at dksX5_way_4 14 rfl rfl)
theorem dX5_way_109 : decode cX5_way 109 = .ok (.iaload, 1) := dk_46 (dk_at dksX5_way_4 16 rfl rfl)
theorem dX5_way_110 : decode cX5_way 110 = .ok (.goto 10, 3) := dk_167 0 10 (dk_at dksX5_way_4 17 rfl rfl)
theorem dX5_way_113 : decode cX5_way 113 = .ok (.aload_n 0, 1) := dk_42 (dk_at dksX5_way_4 20 rfl rfl)
theorem dX5_way_114 : decode cX5_way 114 = .ok (.getfield 7, 3) := dk_180 0 7 (dk_at dksX5_way_4 21 rfl rfl)
theorem dX5_way_117 : decode cX5_way 117 = .ok (.iload 4, 2) := dk_21 4 (dk_at dksX5_way_5 0 rfl rfl)
theorem dX5_way_119 : decode cX5_way 119 = .ok (.iaload, 1) := dk_46 (dk_at dksX5_way_5 2 rfl rfl)
theorem dX5_way_120 : decode cX5_way 120 = .ok (.istore 7, 2) := dk_54 7 (dk_at dksX5_way_5 3 rfl rfl)
theorem dX5_way_122 : decode cX5_way 122 = .ok (.iload 6, 2) := dk_21 6 (dk_at dksX5_way_5 5 rfl rfl)
theorem dX5_way_124 : decode cX5_way 124 = .ok (.iload_n 1, 1) := dk_27 (dk_at dksX5_way_5 7 rfl rfl)
theorem dX5_way_125 : decode cX5_way 125 = .ok (.if_icmp .ne 41, 3) := dk_160 0 41 (dk_at dksX5_way_5 8 rfl rfl)
theorem dX5_way_128 : decode cX5_way 128 = .ok (.aload_n 0, 1) := dk_42 (dk_at dksX5_way_5 11 rfl rfl)
theorem dX5_way_129 : decode cX5_way 129 = .ok (.getfield 16, 3) := dk_180 0 16 (dk_at dksX5_way_5 12 rfl rfl)
theorem dX5_way_132 : decode cX5_way 132 = .ok (.iload 4, 2) := dk_21 4 (dk_at dksX5_way_5 15 rfl rfl)
theorem dX5_way_134 : decode cX5_way 134 = .ok (.iaload, 1) := dk_46 (dk_at dksX5_way_5 17 rfl rfl)
theorem dX5_way_135 : decode cX5_way 135 = .ok (.aload_n 0, 1) := dk_42 (dk_at dksX5_way_5 18 rfl rfl)
theorem dX5_way_136 : decode cX5_way 136 = .ok (.getfield 19, 3) := dk_180 0 19 (dk_at dksX5_way_5 19 rfl rfl)
theorem dX5_way_139 : decode cX5_way 139 = .ok (.bipush 6, 2) := dk_16 6 (dk_at dksX5_way_5 22 rfl rfl)
theorem dX5_way_141 : decode cX5_way 141 = .ok (.iload 7, 2) := dk_21 7 (dk_at dksX5_way_6 0 rfl rfl)
theorem dX5_way_143 : decode cX5_way 143 = .ok (.imul, 1) := dk_104 (dk_at dksX5_way_6 2 rfl rfl)
theorem dX5_way_144 : decode cX5_way 144 = .ok (.iload_n 2, 1) := dk_28 (dk_at dksX5_way_6 3 rfl rfl)
theorem dX5_way_145 : decode cX5_way 145 = .ok (.iadd, 1) := dk_96 (dk_at dksX5_way_6 4 rfl rfl)
theorem dX5_way_146 : decode cX5_way 146 = .ok (.iaload, 1) := dk_46 (dk_at dksX5_way_6 5 rfl rfl)
theorem dX5_way_147 : decode cX5_way 147 = .ok (.iadd, 1) := dk_96 (dk_at dksX5_way_6 6 rfl rfl)
theorem dX5_way_148 : decode cX5_way 148 = .ok (.aload_n 0, 1) := dk_42 (dk_at dksX5_way_6 7 rfl rfl)
theorem dX5_way_149 : decode cX5_way 149 = .ok (.getfield 19, 3) := dk_180 0 19 (dk_at dksX5_way_6 8 rfl rfl)
theorem dX5_way_152 : decode cX5_way 152 = .ok (.bipush 6, 2) := dk_16 6 (dk_at dksX5_way_6 11 rfl rfl)
theorem dX5_way_154 : decode cX5_way 154 = .ok (.iload_n 1, 1) := dk_27 (dk_at dksX5_way_6 13 rfl rfl)
theorem dX5_way_155 : decode cX5_way 155 = .ok (.imul, 1) := dk_104 (dk_at dksX5_way_6 14 rfl rfl)
theorem dX5_way_156 : decode cX5_way 156 = .ok (.iload_n 2, 1) := dk_28 (dk_at dksX5_way_6 15 rfl rfl)
theorem dX5_way_157 : decode cX5_way 157 = .ok (.iadd, 1) := dk_96 (dk_at dksX5_way_6 16 rfl rfl)
theorem dX5_way_158 : decode cX5_way 158 = .ok (.iaload, 1) := dk_46 (dk_at dksX5_way_6 17 rfl rfl)
theorem dX5_way_159 : decode cX5_way 159 = .ok (.if_icmp .ne 7, 3) := dk_160 0 7 (dk_at dksX5_way_6 18 rfl rfl)
theorem dX5_way_162 : decode cX5_way 162 = .ok (.iconst 1, 1) := dk_4 (dk_at dksX5_way_6 21 rfl rfl)
theorem dX5_way_163 : decode cX5_way 163 = .ok (.goto 4, 3) := dk_167 0 4 (dk_at dksX5_way_7 0 rfl rfl)
theorem dX5_way_166 : decode cX5_way 166 = .ok (.iconst 0, 1) := dk_3 (dk_at dksX5_way_7 3 rfl rfl)
theorem dX5_way_167 : decode cX5_way 167 = .ok (.istore 8, 2) := dk_54 8 (dk_at dksX5_way_7 4 rfl rfl)
theorem dX5_way_169 : decode cX5_way 169 = .ok (.iload 8, 2) := dk_21 8 (dk_at dksX5_way_7 6 rfl rfl)
theorem dX5_way_171 : decode cX5_way 171 = .ok (.ifCond .eq 20, 3) := dk_153 0 20 (dk_at dksX5_way_7 8 rfl rfl)
theorem dX5_way_174 : decode cX5_way 174 = .ok (.iload_n 3, 1) := dk_29 (dk_at dksX5_way_7 11 rfl rfl)
theorem dX5_way_175 : decode cX5_way 175 = .ok (.bipush (-9), 2) := dk_16 247 (dk_at dksX5_way_7 12 rfl rfl)
theorem dX5_way_177 : decode cX5_way 177 = .ok (.if_icmp .eq 9, 3) := dk_159 0 9 (dk_at dksX5_way_7 14 rfl rfl)
theorem dX5_way_180 : decode cX5_way 180 = .ok (.iload 7, 2) := dk_21 7 (dk_at dksX5_way_7 17 rfl rfl)
theorem dX5_way_182 : decode cX5_way 182 = .ok (.iload_n 3, 1) := dk_29 (dk_at dksX5_way_7 19 rfl rfl)
theorem dX5_way_183 : decode cX5_way 183 = .ok (.if_icmp .ge 8, 3) := dk_162 0 8 (dk_at dksX5_way_7 20 rfl rfl)
theorem dX5_way_186 : decode cX5_way 186 = .ok (.iload 7, 2) := dk_21 7 (dk_at dksX5_way_8 0 rfl rfl)
theorem dX5_way_188 : decode cX5_way 188 = .ok (.goto 4, 3) := dk_167 0 4 (dk_at dksX5_way_8 2 rfl rfl)
theorem dX5_way_191 : decode cX5_way 191 = .ok (.iload_n 3, 1) := dk_29 (dk_at dksX5_way_8 5 rfl rfl)
theorem dX5_way_192 : decode cX5_way 192 = .ok (.istore_n 3, 1) := dk_62 (dk_at dksX5_way_8 6 rfl rfl)
theorem dX5_way_193 : decode cX5_way 193 = .ok (.iinc 5 1, 3) := dk_132 5 1 (dk_at dksX5_way_8 7 rfl rfl)
theorem dX5_way_196 : decode cX5_way 196 = .ok (.goto (-128), 3) := dk_167 255 128 (dk_at dksX5_way_8 10 rfl rfl)
theorem dX5_way_199 : decode cX5_way 199 = .ok (.iinc 4 1, 3) := dk_132 4 1 (dk_at dksX5_way_8 13 rfl rfl)
theorem dX5_way_202 : decode cX5_way 202 = .ok (.goto (-162), 3) := dk_167 255 94 (dk_at dksX5_way_8 16 rfl rfl)
theorem dX5_way_205 : decode cX5_way 205 = .ok (.iload_n 3, 1) := dk_29 (dk_at dksX5_way_8 19 rfl rfl)
theorem dX5_way_206 : decode cX5_way 206 = .ok (.ireturn, 1) := dk_172 (dk_at dksX5_way_8 20 rfl rfl)
abbrev cX5_begin : ByteArray := prog_13_method_24_code
def yX5_begin : MethodName := ⟨RX5, "begin", "(II)I"⟩
def dkwX5_begin_4 : List UInt8 := [42, 180, 0, 46, 182, 0, 171, 4, 172]
abbrev dktX5_begin_4 : List UInt8 := dkwX5_begin_4 ++ []
def dkwX5_begin_3 : List UInt8 := [29, 28, 6, 29, 104, 122, 16, 7, 126, 79, 42, 180, 0, 25, 29, 3, 79, 132, 3, 1, 167, 255, 227, 42]
abbrev dktX5_begin_3 : List UInt8 := dkwX5_begin_3 ++ dktX5_begin_4
def dkwX5_begin_2 : List UInt8 := [181, 0, 117, 42, 3, 181, 0, 165, 42, 2, 181, 0, 168, 3, 62, 29, 6, 162, 0, 30, 42, 180, 0, 22]
abbrev dktX5_begin_2 : List UInt8 := dkwX5_begin_2 ++ dktX5_begin_3
def dkwX5_begin_1 : List UInt8 := [154, 0, 5, 2, 172, 42, 182, 0, 161, 153, 0, 6, 16, 254, 172, 42, 27, 181, 0, 96, 42, 28]
abbrev dktX5_begin_1 : List UInt8 := dkwX5_begin_1 ++ dktX5_begin_2
def dkwX5_begin_0 : List UInt8 := [42, 3, 181, 0, 78, 27, 133, 10, 20, 0, 155, 184, 0, 85, 153, 0, 12, 42, 27, 28, 182, 0, 157]
abbrev dktX5_begin_0 : List UInt8 := dkwX5_begin_0 ++ dktX5_begin_1
theorem dksX5_begin_0 : cX5_begin.data.toList.drop 0 = dktX5_begin_0 := by decide +kernel
theorem dksX5_begin_1 : cX5_begin.data.toList.drop 23 = dktX5_begin_1 := dk_seg dksX5_begin_0 23 rfl rfl
theorem dksX5_begin_2 : cX5_begin.data.toList.drop 45 = dktX5_begin_2 := dk_seg dksX5_begin_1 22 rfl rfl
theorem dksX5_begin_3 : cX5_begin.data.toList.drop 69 = dktX5_begin_3 := dk_seg dksX5_begin_2 24 rfl rfl
theorem dksX5_begin_4 : cX5_begin.data.toList.drop 93 = dktX5_begin_4 := dk_seg dksX5_begin_3 24 rfl rfl
theorem dX5_begin_0 : decode cX5_begin 0 = .ok (.aload_n 0, 1) := dk_42 (dk_at dksX5_begin_0 0 rfl rfl)
theorem dX5_begin_1 : decode cX5_begin 1 = .ok (.iconst 0, 1) := dk_3 (dk_at dksX5_begin_0 1 rfl rfl)
theorem dX5_begin_2 : decode cX5_begin 2 = .ok (.putfield 78, 3) := dk_181 0 78 (dk_at dksX5_begin_0 2 rfl rfl)
theorem dX5_begin_5 : decode cX5_begin 5 = .ok (.iload_n 1, 1) := dk_27 (dk_at dksX5_begin_0 5 rfl rfl)
theorem dX5_begin_6 : decode cX5_begin 6 = .ok (.i2l, 1) := dk_133 (dk_at dksX5_begin_0 6 rfl rfl)
theorem dX5_begin_7 : decode cX5_begin 7 = .ok (.lconst 1, 1) := dk_10 (dk_at dksX5_begin_0 7 rfl rfl)
theorem dX5_begin_8 : decode cX5_begin 8 = .ok (.ldc2_w 155, 3) := dk_20 0 155 (dk_at dksX5_begin_0 8 rfl rfl)
theorem dX5_begin_11 : decode cX5_begin 11 = .ok (.invokestatic 85, 3) := dk_184 0 85 (dk_at dksX5_begin_0 11 rfl rfl)
theorem dX5_begin_14 : decode cX5_begin 14 = .ok (.ifCond .eq 12, 3) := dk_153 0 12 (dk_at dksX5_begin_0 14 rfl rfl)
theorem dX5_begin_17 : decode cX5_begin 17 = .ok (.aload_n 0, 1) := dk_42 (dk_at dksX5_begin_0 17 rfl rfl)
theorem dX5_begin_18 : decode cX5_begin 18 = .ok (.iload_n 1, 1) := dk_27 (dk_at dksX5_begin_0 18 rfl rfl)
theorem dX5_begin_19 : decode cX5_begin 19 = .ok (.iload_n 2, 1) := dk_28 (dk_at dksX5_begin_0 19 rfl rfl)
theorem dX5_begin_20 : decode cX5_begin 20 = .ok (.invokevirtual 157, 3) := dk_182 0 157 (dk_at dksX5_begin_0 20 rfl rfl)
theorem dX5_begin_23 : decode cX5_begin 23 = .ok (.ifCond .ne 5, 3) := dk_154 0 5 (dk_at dksX5_begin_1 0 rfl rfl)
theorem dX5_begin_26 : decode cX5_begin 26 = .ok (.iconst (-1), 1) := dk_2 (dk_at dksX5_begin_1 3 rfl rfl)
theorem dX5_begin_27 : decode cX5_begin 27 = .ok (.ireturn, 1) := dk_172 (dk_at dksX5_begin_1 4 rfl rfl)
theorem dX5_begin_28 : decode cX5_begin 28 = .ok (.aload_n 0, 1) := dk_42 (dk_at dksX5_begin_1 5 rfl rfl)
theorem dX5_begin_29 : decode cX5_begin 29 = .ok (.invokevirtual 161, 3) := dk_182 0 161 (dk_at dksX5_begin_1 6 rfl rfl)
theorem dX5_begin_32 : decode cX5_begin 32 = .ok (.ifCond .eq 6, 3) := dk_153 0 6 (dk_at dksX5_begin_1 9 rfl rfl)
theorem dX5_begin_35 : decode cX5_begin 35 = .ok (.bipush (-2), 2) := dk_16 254 (dk_at dksX5_begin_1 12 rfl rfl)
theorem dX5_begin_37 : decode cX5_begin 37 = .ok (.ireturn, 1) := dk_172 (dk_at dksX5_begin_1 14 rfl rfl)
theorem dX5_begin_38 : decode cX5_begin 38 = .ok (.aload_n 0, 1) := dk_42 (dk_at dksX5_begin_1 15 rfl rfl)
theorem dX5_begin_39 : decode cX5_begin 39 = .ok (.iload_n 1, 1) := dk_27 (dk_at dksX5_begin_1 16 rfl rfl)
theorem dX5_begin_40 : decode cX5_begin 40 = .ok (.putfield 96, 3) := dk_181 0 96 (dk_at dksX5_begin_1 17 rfl rfl)
theorem dX5_begin_43 : decode cX5_begin 43 = .ok (.aload_n 0, 1) := dk_42 (dk_at dksX5_begin_1 20 rfl rfl)
theorem dX5_begin_44 : decode cX5_begin 44 = .ok (.iload_n 2, 1) := dk_28 (dk_at dksX5_begin_1 21 rfl rfl)
theorem dX5_begin_45 : decode cX5_begin 45 = .ok (.putfield 117, 3) := dk_181 0 117 (dk_at dksX5_begin_2 0 rfl rfl)
theorem dX5_begin_48 : decode cX5_begin 48 = .ok (.aload_n 0, 1) := dk_42 (dk_at dksX5_begin_2 3 rfl rfl)
theorem dX5_begin_49 : decode cX5_begin 49 = .ok (.iconst 0, 1) := dk_3 (dk_at dksX5_begin_2 4 rfl rfl)
theorem dX5_begin_50 : decode cX5_begin 50 = .ok (.putfield 165, 3) := dk_181 0 165 (dk_at dksX5_begin_2 5 rfl rfl)
theorem dX5_begin_53 : decode cX5_begin 53 = .ok (.aload_n 0, 1) := dk_42 (dk_at dksX5_begin_2 8 rfl rfl)
theorem dX5_begin_54 : decode cX5_begin 54 = .ok (.iconst (-1), 1) := dk_2 (dk_at dksX5_begin_2 9 rfl rfl)
theorem dX5_begin_55 : decode cX5_begin 55 = .ok (.putfield 168, 3) := dk_181 0 168 (dk_at dksX5_begin_2 10 rfl rfl)
theorem dX5_begin_58 : decode cX5_begin 58 = .ok (.iconst 0, 1) := dk_3 (dk_at dksX5_begin_2 13 rfl rfl)
theorem dX5_begin_59 : decode cX5_begin 59 = .ok (.istore_n 3, 1) := dk_62 (dk_at dksX5_begin_2 14 rfl rfl)
theorem dX5_begin_60 : decode cX5_begin 60 = .ok (.iload_n 3, 1) := dk_29 (dk_at dksX5_begin_2 15 rfl rfl)
theorem dX5_begin_61 : decode cX5_begin 61 = .ok (.iconst 3, 1) := dk_6 (dk_at dksX5_begin_2 16 rfl rfl)
theorem dX5_begin_62 : decode cX5_begin 62 = .ok (.if_icmp .ge 30, 3) := dk_162 0 30 (dk_at dksX5_begin_2 17 rfl rfl)
theorem dX5_begin_65 : decode cX5_begin 65 = .ok (.aload_n 0, 1) := dk_42 (dk_at dksX5_begin_2 20 rfl rfl)
theorem dX5_begin_66 : decode cX5_begin 66 = .ok (.getfield 22, 3) := dk_180 0 22 (dk_at dksX5_begin_2 21 rfl rfl)
theorem dX5_begin_69 : decode cX5_begin 69 = .ok (.iload_n 3, 1) := dk_29 (dk_at dksX5_begin_3 0 rfl rfl)
theorem dX5_begin_70 : decode cX5_begin 70 = .ok (.iload_n 2, 1) := dk_28 (dk_at dksX5_begin_3 1 rfl rfl)
theorem dX5_begin_71 : decode cX5_begin 71 = .ok (.iconst 3, 1) := dk_6 (dk_at dksX5_begin_3 2 rfl rfl)
theorem dX5_begin_72 : decode cX5_begin 72 = .ok (.iload_n 3, 1) := dk_29 (dk_at dksX5_begin_3 3 rfl rfl)
theorem dX5_begin_73 : decode cX5_begin 73 = .ok (.imul, 1) := dk_104 (dk_at dksX5_begin_3 4 rfl rfl)
theorem dX5_begin_74 : decode cX5_begin 74 = .ok (.ishr, 1) := dk_122 (dk_at dksX5_begin_3 5 rfl rfl)
theorem dX5_begin_75 : decode cX5_begin 75 = .ok (.bipush 7, 2) := dk_16 7 (dk_at dksX5_begin_3 6 rfl rfl)
theorem dX5_begin_77 : decode cX5_begin 77 = .ok (.iand, 1) := dk_126 (dk_at dksX5_begin_3 8 rfl rfl)
theorem dX5_begin_78 : decode cX5_begin 78 = .ok (.iastore, 1) := dk_79 (dk_at dksX5_begin_3 9 rfl rfl)
theorem dX5_begin_79 : decode cX5_begin 79 = .ok (.aload_n 0, 1) := dk_42 (dk_at dksX5_begin_3 10 rfl rfl)
theorem dX5_begin_80 : decode cX5_begin 80 = .ok (.getfield 25, 3) := dk_180 0 25 (dk_at dksX5_begin_3 11 rfl rfl)
theorem dX5_begin_83 : decode cX5_begin 83 = .ok (.iload_n 3, 1) := dk_29 (dk_at dksX5_begin_3 14 rfl rfl)
theorem dX5_begin_84 : decode cX5_begin 84 = .ok (.iconst 0, 1) := dk_3 (dk_at dksX5_begin_3 15 rfl rfl)
theorem dX5_begin_85 : decode cX5_begin 85 = .ok (.iastore, 1) := dk_79 (dk_at dksX5_begin_3 16 rfl rfl)
theorem dX5_begin_86 : decode cX5_begin 86 = .ok (.iinc 3 1, 3) := dk_132 3 1 (dk_at dksX5_begin_3 17 rfl rfl)
theorem dX5_begin_89 : decode cX5_begin 89 = .ok (.goto (-29), 3) := dk_167 255 227 (dk_at dksX5_begin_3 20 rfl rfl)
theorem dX5_begin_92 : decode cX5_begin 92 = .ok (.aload_n 0, 1) := dk_42 (dk_at dksX5_begin_3 23 rfl rfl)
theorem dX5_begin_93 : decode cX5_begin 93 = .ok (.aload_n 0, 1) := dk_42 (dk_at dksX5_begin_4 0 rfl rfl)
theorem dX5_begin_94 : decode cX5_begin 94 = .ok (.getfield 46, 3) := dk_180 0 46 (dk_at dksX5_begin_4 1 rfl rfl)
theorem dX5_begin_97 : decode cX5_begin 97 = .ok (.invokevirtual 171, 3) := dk_182 0 171 (dk_at dksX5_begin_4 4 rfl rfl)
theorem dX5_begin_100 : decode cX5_begin 100 = .ok (.iconst 1, 1) := dk_4 (dk_at dksX5_begin_4 7 rfl rfl)
theorem dX5_begin_101 : decode cX5_begin 101 = .ok (.ireturn, 1) := dk_172 (dk_at dksX5_begin_4 8 rfl rfl)
abbrev cX5_isStand : ByteArray := prog_13_method_12_code
def yX5_isStand : MethodName := ⟨RX5, "isStand", "(II)Z"⟩
def dkwX5_isStand_2 : List UInt8 := [4, 167, 0, 4, 3, 62, 132, 4, 1, 167, 255, 221, 29, 172]
abbrev dktX5_isStand_2 : List UInt8 := dkwX5_isStand_2 ++ []
def dkwX5_isStand_1 : List UInt8 := [27, 162, 0, 35, 29, 153, 0, 31, 28, 6, 21, 4, 104, 122, 16, 7, 126, 42, 180, 0, 82, 162, 0, 7]
abbrev dktX5_isStand_1 : List UInt8 := dkwX5_isStand_1 ++ dktX5_isStand_2
def dkwX5_isStand_0 : List UInt8 := [28, 155, 0, 16, 28, 4, 6, 27, 104, 120, 162, 0, 7, 4, 167, 0, 4, 3, 62, 3, 54, 4, 21, 4]
abbrev dktX5_isStand_0 : List UInt8 := dkwX5_isStand_0 ++ dktX5_isStand_1
theorem dksX5_isStand_0 : cX5_isStand.data.toList.drop 0 = dktX5_isStand_0 := by decide +kernel
theorem dksX5_isStand_1 : cX5_isStand.data.toList.drop 24 = dktX5_isStand_1 := dk_seg dksX5_isStand_0 24 rfl rfl
theorem dksX5_isStand_2 : cX5_isStand.data.toList.drop 48 = dktX5_isStand_2 := dk_seg dksX5_isStand_1 24 rfl rfl
theorem dX5_isStand_0 : decode cX5_isStand 0 = .ok (.iload_n 2, 1) := dk_28 (dk_at dksX5_isStand_0 0 rfl rfl)
theorem dX5_isStand_1 : decode cX5_isStand 1 = .ok (.ifCond .lt 16, 3) := dk_155 0 16 (dk_at dksX5_isStand_0 1 rfl rfl)
theorem dX5_isStand_4 : decode cX5_isStand 4 = .ok (.iload_n 2, 1) := dk_28 (dk_at dksX5_isStand_0 4 rfl rfl)
theorem dX5_isStand_5 : decode cX5_isStand 5 = .ok (.iconst 1, 1) := dk_4 (dk_at dksX5_isStand_0 5 rfl rfl)
theorem dX5_isStand_6 : decode cX5_isStand 6 = .ok (.iconst 3, 1) := dk_6 (dk_at dksX5_isStand_0 6 rfl rfl)
theorem dX5_isStand_7 : decode cX5_isStand 7 = .ok (.iload_n 1, 1) := dk_27 (dk_at dksX5_isStand_0 7 rfl rfl)
theorem dX5_isStand_8 : decode cX5_isStand 8 = .ok (.imul, 1) := dk_104 (dk_at dksX5_isStand_0 8 rfl rfl)
theorem dX5_isStand_9 : decode cX5_isStand 9 = .ok (.ishl, 1) := dk_120 (dk_at dksX5_isStand_0 9 rfl rfl)
theorem dX5_isStand_10 : decode cX5_isStand 10 = .ok (.if_icmp .ge 7, 3) := dk_162 0 7 (dk_at dksX5_isStand_0 10 rfl rfl)
theorem dX5_isStand_13 : decode cX5_isStand 13 = .ok (.iconst 1, 1) := dk_4 (dk_at dksX5_isStand_0 13 rfl rfl)
theorem dX5_isStand_14 : decode cX5_isStand 14 = .ok (.goto 4, 3) := dk_167 0 4 (dk_at dksX5_isStand_0 14 rfl rfl)
theorem dX5_isStand_17 : decode cX5_isStand 17 = .ok (.iconst 0, 1) := dk_3 (dk_at dksX5_isStand_0 17 rfl rfl)
theorem dX5_isStand_18 : decode cX5_isStand 18 = .ok (.istore_n 3, 1) := dk_62 (dk_at dksX5_isStand_0 18 rfl rfl)
theorem dX5_isStand_19 : decode cX5_isStand 19 = .ok (.iconst 0, 1) := dk_3 (dk_at dksX5_isStand_0 19 rfl rfl)
theorem dX5_isStand_20 : decode cX5_isStand 20 = .ok (.istore 4, 2) := dk_54 4 (dk_at dksX5_isStand_0 20 rfl rfl)
theorem dX5_isStand_22 : decode cX5_isStand 22 = .ok (.iload 4, 2) := dk_21 4 (dk_at dksX5_isStand_0 22 rfl rfl)
theorem dX5_isStand_24 : decode cX5_isStand 24 = .ok (.iload_n 1, 1) := dk_27 (dk_at dksX5_isStand_1 0 rfl rfl)
theorem dX5_isStand_25 : decode cX5_isStand 25 = .ok (.if_icmp .ge 35, 3) := dk_162 0 35 (dk_at dksX5_isStand_1 1 rfl rfl)
theorem dX5_isStand_28 : decode cX5_isStand 28 = .ok (.iload_n 3, 1) := dk_29 (dk_at dksX5_isStand_1 4 rfl rfl)
theorem dX5_isStand_29 : decode cX5_isStand 29 = .ok (.ifCond .eq 31, 3) := dk_153 0 31 (dk_at dksX5_isStand_1 5 rfl rfl)
theorem dX5_isStand_32 : decode cX5_isStand 32 = .ok (.iload_n 2, 1) := dk_28 (dk_at dksX5_isStand_1 8 rfl rfl)
theorem dX5_isStand_33 : decode cX5_isStand 33 = .ok (.iconst 3, 1) := dk_6 (dk_at dksX5_isStand_1 9 rfl rfl)
theorem dX5_isStand_34 : decode cX5_isStand 34 = .ok (.iload 4, 2) := dk_21 4 (dk_at dksX5_isStand_1 10 rfl rfl)
theorem dX5_isStand_36 : decode cX5_isStand 36 = .ok (.imul, 1) := dk_104 (dk_at dksX5_isStand_1 12 rfl rfl)
theorem dX5_isStand_37 : decode cX5_isStand 37 = .ok (.ishr, 1) := dk_122 (dk_at dksX5_isStand_1 13 rfl rfl)
theorem dX5_isStand_38 : decode cX5_isStand 38 = .ok (.bipush 7, 2) := dk_16 7 (dk_at dksX5_isStand_1 14 rfl rfl)
theorem dX5_isStand_40 : decode cX5_isStand 40 = .ok (.iand, 1) := dk_126 (dk_at dksX5_isStand_1 16 rfl rfl)
theorem dX5_isStand_41 : decode cX5_isStand 41 = .ok (.aload_n 0, 1) := dk_42 (dk_at dksX5_isStand_1 17 rfl rfl)
theorem dX5_isStand_42 : decode cX5_isStand 42 = .ok (.getfield 82, 3) := dk_180 0 82 (dk_at dksX5_isStand_1 18 rfl rfl)
theorem dX5_isStand_45 : decode cX5_isStand 45 = .ok (.if_icmp .ge 7, 3) := dk_162 0 7 (dk_at dksX5_isStand_1 21 rfl rfl)
theorem dX5_isStand_48 : decode cX5_isStand 48 = .ok (.iconst 1, 1) := dk_4 (dk_at dksX5_isStand_2 0 rfl rfl)
theorem dX5_isStand_49 : decode cX5_isStand 49 = .ok (.goto 4, 3) := dk_167 0 4 (dk_at dksX5_isStand_2 1 rfl rfl)
theorem dX5_isStand_52 : decode cX5_isStand 52 = .ok (.iconst 0, 1) := dk_3 (dk_at dksX5_isStand_2 4 rfl rfl)
theorem dX5_isStand_53 : decode cX5_isStand 53 = .ok (.istore_n 3, 1) := dk_62 (dk_at dksX5_isStand_2 5 rfl rfl)
theorem dX5_isStand_54 : decode cX5_isStand 54 = .ok (.iinc 4 1, 3) := dk_132 4 1 (dk_at dksX5_isStand_2 6 rfl rfl)
theorem dX5_isStand_57 : decode cX5_isStand 57 = .ok (.goto (-35), 3) := dk_167 255 221 (dk_at dksX5_isStand_2 9 rfl rfl)
theorem dX5_isStand_60 : decode cX5_isStand 60 = .ok (.iload_n 3, 1) := dk_29 (dk_at dksX5_isStand_2 12 rfl rfl)
theorem dX5_isStand_61 : decode cX5_isStand 61 = .ok (.ireturn, 1) := dk_172 (dk_at dksX5_isStand_2 13 rfl rfl)
abbrev cX5_isTorn : ByteArray := prog_13_method_6_code
def yX5_isTorn : MethodName := ⟨RX5, "isTorn", "()Z"⟩
def dkwX5_isTorn_2 : List UInt8 := [3, 128, 60, 132, 3, 1, 167, 255, 221, 132, 2, 1, 167, 255, 205, 27, 172]
abbrev dktX5_isTorn_2 : List UInt8 := dkwX5_isTorn_2 ++ []
def dkwX5_isTorn_1 : List UInt8 := [162, 0, 33, 27, 42, 180, 0, 19, 16, 6, 28, 104, 29, 96, 46, 18, 89, 161, 0, 7, 4, 167, 0, 4]
abbrev dktX5_isTorn_1 : List UInt8 := dkwX5_isTorn_1 ++ dktX5_isTorn_2
def dkwX5_isTorn_0 : List UInt8 := [42, 182, 0, 93, 3, 60, 3, 61, 28, 42, 180, 0, 82, 162, 0, 49, 3, 62, 29, 42, 180, 0, 82]
abbrev dktX5_isTorn_0 : List UInt8 := dkwX5_isTorn_0 ++ dktX5_isTorn_1
theorem dksX5_isTorn_0 : cX5_isTorn.data.toList.drop 0 = dktX5_isTorn_0 := by decide +kernel
theorem dksX5_isTorn_1 : cX5_isTorn.data.toList.drop 23 = dktX5_isTorn_1 := dk_seg dksX5_isTorn_0 23 rfl rfl
theorem dksX5_isTorn_2 : cX5_isTorn.data.toList.drop 47 = dktX5_isTorn_2 := dk_seg dksX5_isTorn_1 24 rfl rfl
theorem dX5_isTorn_0 : decode cX5_isTorn 0 = .ok (.aload_n 0, 1) := dk_42 (dk_at dksX5_isTorn_0 0 rfl rfl)
theorem dX5_isTorn_1 : decode cX5_isTorn 1 = .ok (.invokevirtual 93, 3) := dk_182 0 93 (dk_at dksX5_isTorn_0 1 rfl rfl)
theorem dX5_isTorn_4 : decode cX5_isTorn 4 = .ok (.iconst 0, 1) := dk_3 (dk_at dksX5_isTorn_0 4 rfl rfl)
theorem dX5_isTorn_5 : decode cX5_isTorn 5 = .ok (.istore_n 1, 1) := dk_60 (dk_at dksX5_isTorn_0 5 rfl rfl)
theorem dX5_isTorn_6 : decode cX5_isTorn 6 = .ok (.iconst 0, 1) := dk_3 (dk_at dksX5_isTorn_0 6 rfl rfl)
theorem dX5_isTorn_7 : decode cX5_isTorn 7 = .ok (.istore_n 2, 1) := dk_61 (dk_at dksX5_isTorn_0 7 rfl rfl)
theorem dX5_isTorn_8 : decode cX5_isTorn 8 = .ok (.iload_n 2, 1) := dk_28 (dk_at dksX5_isTorn_0 8 rfl rfl)
theorem dX5_isTorn_9 : decode cX5_isTorn 9 = .ok (.aload_n 0, 1) := dk_42 (dk_at dksX5_isTorn_0 9 rfl rfl)
theorem dX5_isTorn_10 : decode cX5_isTorn 10 = .ok (.getfield 82, 3) := dk_180 0 82 (dk_at dksX5_isTorn_0 10 rfl rfl)
theorem dX5_isTorn_13 : decode cX5_isTorn 13 = .ok (.if_icmp .ge 49, 3) := dk_162 0 49 (dk_at dksX5_isTorn_0 13 rfl rfl)
theorem dX5_isTorn_16 : decode cX5_isTorn 16 = .ok (.iconst 0, 1) := dk_3 (dk_at dksX5_isTorn_0 16 rfl rfl)
theorem dX5_isTorn_17 : decode cX5_isTorn 17 = .ok (.istore_n 3, 1) := dk_62 (dk_at dksX5_isTorn_0 17 rfl rfl)
theorem dX5_isTorn_18 : decode cX5_isTorn 18 = .ok (.iload_n 3, 1) := dk_29 (dk_at dksX5_isTorn_0 18 rfl rfl)
theorem dX5_isTorn_19 : decode cX5_isTorn 19 = .ok (.aload_n 0, 1) := dk_42 (dk_at dksX5_isTorn_0 19 rfl rfl)
theorem dX5_isTorn_20 : decode cX5_isTorn 20 = .ok (.getfield 82, 3) := dk_180 0 82 (dk_at dksX5_isTorn_0 20 rfl rfl)
theorem dX5_isTorn_23 : decode cX5_isTorn 23 = .ok (.if_icmp .ge 33, 3) := dk_162 0 33 (dk_at dksX5_isTorn_1 0 rfl rfl)
theorem dX5_isTorn_26 : decode cX5_isTorn 26 = .ok (.iload_n 1, 1) := dk_27 (dk_at dksX5_isTorn_1 3 rfl rfl)
theorem dX5_isTorn_27 : decode cX5_isTorn 27 = .ok (.aload_n 0, 1) := dk_42 (dk_at dksX5_isTorn_1 4 rfl rfl)
theorem dX5_isTorn_28 : decode cX5_isTorn 28 = .ok (.getfield 19, 3) := dk_180 0 19 (dk_at dksX5_isTorn_1 5 rfl rfl)
theorem dX5_isTorn_31 : decode cX5_isTorn 31 = .ok (.bipush 6, 2) := dk_16 6 (dk_at dksX5_isTorn_1 8 rfl rfl)
theorem dX5_isTorn_33 : decode cX5_isTorn 33 = .ok (.iload_n 2, 1) := dk_28 (dk_at dksX5_isTorn_1 10 rfl rfl)
theorem dX5_isTorn_34 : decode cX5_isTorn 34 = .ok (.imul, 1) := dk_104 (dk_at dksX5_isTorn_1 11 rfl rfl)
theorem dX5_isTorn_35 : decode cX5_isTorn 35 = .ok (.iload_n 3, 1) := dk_29 (dk_at dksX5_isTorn_1 12 rfl rfl)
theorem dX5_isTorn_36 : decode cX5_isTorn 36 = .ok (.iadd, 1) := dk_96 (dk_at dksX5_isTorn_1 13 rfl rfl)
theorem dX5_isTorn_37 : decode cX5_isTorn 37 = .ok (.iaload, 1) := dk_46 (dk_at dksX5_isTorn_1 14 rfl rfl)
theorem dX5_isTorn_38 : decode cX5_isTorn 38 = .ok (.ldc 89, 2) := dk_18 89 (dk_at dksX5_isTorn_1 15 rfl rfl)
theorem dX5_isTorn_40 : decode cX5_isTorn 40 = .ok (.if_icmp .lt 7, 3) := dk_161 0 7 (dk_at dksX5_isTorn_1 17 rfl rfl)
theorem dX5_isTorn_43 : decode cX5_isTorn 43 = .ok (.iconst 1, 1) := dk_4 (dk_at dksX5_isTorn_1 20 rfl rfl)
theorem dX5_isTorn_44 : decode cX5_isTorn 44 = .ok (.goto 4, 3) := dk_167 0 4 (dk_at dksX5_isTorn_1 21 rfl rfl)
theorem dX5_isTorn_47 : decode cX5_isTorn 47 = .ok (.iconst 0, 1) := dk_3 (dk_at dksX5_isTorn_2 0 rfl rfl)
theorem dX5_isTorn_48 : decode cX5_isTorn 48 = .ok (.ior, 1) := dk_128 (dk_at dksX5_isTorn_2 1 rfl rfl)
theorem dX5_isTorn_49 : decode cX5_isTorn 49 = .ok (.istore_n 1, 1) := dk_60 (dk_at dksX5_isTorn_2 2 rfl rfl)
theorem dX5_isTorn_50 : decode cX5_isTorn 50 = .ok (.iinc 3 1, 3) := dk_132 3 1 (dk_at dksX5_isTorn_2 3 rfl rfl)
theorem dX5_isTorn_53 : decode cX5_isTorn 53 = .ok (.goto (-35), 3) := dk_167 255 221 (dk_at dksX5_isTorn_2 6 rfl rfl)
theorem dX5_isTorn_56 : decode cX5_isTorn 56 = .ok (.iinc 2 1, 3) := dk_132 2 1 (dk_at dksX5_isTorn_2 9 rfl rfl)
theorem dX5_isTorn_59 : decode cX5_isTorn 59 = .ok (.goto (-51), 3) := dk_167 255 205 (dk_at dksX5_isTorn_2 12 rfl rfl)
theorem dX5_isTorn_62 : decode cX5_isTorn 62 = .ok (.iload_n 1, 1) := dk_27 (dk_at dksX5_isTorn_2 15 rfl rfl)
theorem dX5_isTorn_63 : decode cX5_isTorn 63 = .ok (.ireturn, 1) := dk_172 (dk_at dksX5_isTorn_2 16 rfl rfl)
abbrev cX5_starts : ByteArray := prog_13_method_17_code
def yX5_starts : MethodName := ⟨RX5, "starts", "([I)V"⟩
def dkwX5_starts_1 : List UInt8 := [18, 89, 79, 132, 2, 1, 167, 255, 229, 177]
abbrev dktX5_starts_1 : List UInt8 := dkwX5_starts_1 ++ []
def dkwX5_starts_0 : List UInt8 := [3, 61, 28, 17, 2, 0, 162, 0, 26, 43, 28, 28, 42, 180, 0, 117, 160, 0, 7, 3, 167, 0, 5]
abbrev dktX5_starts_0 : List UInt8 := dkwX5_starts_0 ++ dktX5_starts_1
theorem dksX5_starts_0 : cX5_starts.data.toList.drop 0 = dktX5_starts_0 := by decide +kernel
theorem dksX5_starts_1 : cX5_starts.data.toList.drop 23 = dktX5_starts_1 := dk_seg dksX5_starts_0 23 rfl rfl
theorem dX5_starts_0 : decode cX5_starts 0 = .ok (.iconst 0, 1) := dk_3 (dk_at dksX5_starts_0 0 rfl rfl)
theorem dX5_starts_1 : decode cX5_starts 1 = .ok (.istore_n 2, 1) := dk_61 (dk_at dksX5_starts_0 1 rfl rfl)
theorem dX5_starts_2 : decode cX5_starts 2 = .ok (.iload_n 2, 1) := dk_28 (dk_at dksX5_starts_0 2 rfl rfl)
theorem dX5_starts_3 : decode cX5_starts 3 = .ok (.sipush 512, 3) := dk_17 2 0 (dk_at dksX5_starts_0 3 rfl rfl)
theorem dX5_starts_6 : decode cX5_starts 6 = .ok (.if_icmp .ge 26, 3) := dk_162 0 26 (dk_at dksX5_starts_0 6 rfl rfl)
theorem dX5_starts_9 : decode cX5_starts 9 = .ok (.aload_n 1, 1) := dk_43 (dk_at dksX5_starts_0 9 rfl rfl)
theorem dX5_starts_10 : decode cX5_starts 10 = .ok (.iload_n 2, 1) := dk_28 (dk_at dksX5_starts_0 10 rfl rfl)
theorem dX5_starts_11 : decode cX5_starts 11 = .ok (.iload_n 2, 1) := dk_28 (dk_at dksX5_starts_0 11 rfl rfl)
theorem dX5_starts_12 : decode cX5_starts 12 = .ok (.aload_n 0, 1) := dk_42 (dk_at dksX5_starts_0 12 rfl rfl)
theorem dX5_starts_13 : decode cX5_starts 13 = .ok (.getfield 117, 3) := dk_180 0 117 (dk_at dksX5_starts_0 13 rfl rfl)
theorem dX5_starts_16 : decode cX5_starts 16 = .ok (.if_icmp .ne 7, 3) := dk_160 0 7 (dk_at dksX5_starts_0 16 rfl rfl)
theorem dX5_starts_19 : decode cX5_starts 19 = .ok (.iconst 0, 1) := dk_3 (dk_at dksX5_starts_0 19 rfl rfl)
theorem dX5_starts_20 : decode cX5_starts 20 = .ok (.goto 5, 3) := dk_167 0 5 (dk_at dksX5_starts_0 20 rfl rfl)
theorem dX5_starts_23 : decode cX5_starts 23 = .ok (.ldc 89, 2) := dk_18 89 (dk_at dksX5_starts_1 0 rfl rfl)
theorem dX5_starts_25 : decode cX5_starts 25 = .ok (.iastore, 1) := dk_79 (dk_at dksX5_starts_1 2 rfl rfl)
theorem dX5_starts_26 : decode cX5_starts 26 = .ok (.iinc 2 1, 3) := dk_132 2 1 (dk_at dksX5_starts_1 3 rfl rfl)
theorem dX5_starts_29 : decode cX5_starts 29 = .ok (.goto (-27), 3) := dk_167 255 229 (dk_at dksX5_starts_1 6 rfl rfl)
theorem dX5_starts_32 : decode cX5_starts 32 = .ok (.return_, 1) := dk_177 (dk_at dksX5_starts_1 9 rfl rfl)
abbrev cX5_end : ByteArray := prog_13_method_25_code
def yX5_end : MethodName := ⟨RX5, "end", "()I"⟩
def dkwX5_end_1 : List UInt8 := [181, 0, 96, 42, 3, 181, 0, 165, 27, 172]
abbrev dktX5_end_1 : List UInt8 := dkwX5_end_1 ++ []
def dkwX5_end_0 : List UInt8 := [42, 3, 181, 0, 78, 42, 180, 0, 96, 154, 0, 6, 16, 254, 172, 42, 180, 0, 165, 60, 42, 3]
abbrev dktX5_end_0 : List UInt8 := dkwX5_end_0 ++ dktX5_end_1
theorem dksX5_end_0 : cX5_end.data.toList.drop 0 = dktX5_end_0 := by decide +kernel
theorem dksX5_end_1 : cX5_end.data.toList.drop 22 = dktX5_end_1 := dk_seg dksX5_end_0 22 rfl rfl
theorem dX5_end_0 : decode cX5_end 0 = .ok (.aload_n 0, 1) := dk_42 (dk_at dksX5_end_0 0 rfl rfl)
theorem dX5_end_1 : decode cX5_end 1 = .ok (.iconst 0, 1) := dk_3 (dk_at dksX5_end_0 1 rfl rfl)
theorem dX5_end_2 : decode cX5_end 2 = .ok (.putfield 78, 3) := dk_181 0 78 (dk_at dksX5_end_0 2 rfl rfl)
theorem dX5_end_5 : decode cX5_end 5 = .ok (.aload_n 0, 1) := dk_42 (dk_at dksX5_end_0 5 rfl rfl)
theorem dX5_end_6 : decode cX5_end 6 = .ok (.getfield 96, 3) := dk_180 0 96 (dk_at dksX5_end_0 6 rfl rfl)
theorem dX5_end_9 : decode cX5_end 9 = .ok (.ifCond .ne 6, 3) := dk_154 0 6 (dk_at dksX5_end_0 9 rfl rfl)
theorem dX5_end_12 : decode cX5_end 12 = .ok (.bipush (-2), 2) := dk_16 254 (dk_at dksX5_end_0 12 rfl rfl)
theorem dX5_end_14 : decode cX5_end 14 = .ok (.ireturn, 1) := dk_172 (dk_at dksX5_end_0 14 rfl rfl)
theorem dX5_end_15 : decode cX5_end 15 = .ok (.aload_n 0, 1) := dk_42 (dk_at dksX5_end_0 15 rfl rfl)
theorem dX5_end_16 : decode cX5_end 16 = .ok (.getfield 165, 3) := dk_180 0 165 (dk_at dksX5_end_0 16 rfl rfl)
theorem dX5_end_19 : decode cX5_end 19 = .ok (.istore_n 1, 1) := dk_60 (dk_at dksX5_end_0 19 rfl rfl)
theorem dX5_end_20 : decode cX5_end 20 = .ok (.aload_n 0, 1) := dk_42 (dk_at dksX5_end_0 20 rfl rfl)
theorem dX5_end_21 : decode cX5_end 21 = .ok (.iconst 0, 1) := dk_3 (dk_at dksX5_end_0 21 rfl rfl)
theorem dX5_end_22 : decode cX5_end 22 = .ok (.putfield 96, 3) := dk_181 0 96 (dk_at dksX5_end_1 0 rfl rfl)
theorem dX5_end_25 : decode cX5_end 25 = .ok (.aload_n 0, 1) := dk_42 (dk_at dksX5_end_1 3 rfl rfl)
theorem dX5_end_26 : decode cX5_end 26 = .ok (.iconst 0, 1) := dk_3 (dk_at dksX5_end_1 4 rfl rfl)
theorem dX5_end_27 : decode cX5_end 27 = .ok (.putfield 165, 3) := dk_181 0 165 (dk_at dksX5_end_1 5 rfl rfl)
theorem dX5_end_30 : decode cX5_end 30 = .ok (.iload_n 1, 1) := dk_27 (dk_at dksX5_end_1 8 rfl rfl)
theorem dX5_end_31 : decode cX5_end 31 = .ok (.ireturn, 1) := dk_172 (dk_at dksX5_end_1 9 rfl rfl)
abbrev cX5_rule : ByteArray := prog_13_method_26_code
def yX5_rule : MethodName := ⟨RX5, "rule", "(I)I"⟩
def dkwX5_rule_1 : List UInt8 := [42, 27, 181, 0, 138, 28, 172]
abbrev dktX5_rule_1 : List UInt8 := dkwX5_rule_1 ++ []
def dkwX5_rule_0 : List UInt8 := [42, 3, 181, 0, 78, 27, 133, 9, 20, 0, 155, 184, 0, 85, 154, 0, 5, 2, 172, 42, 180, 0, 138, 61]
abbrev dktX5_rule_0 : List UInt8 := dkwX5_rule_0 ++ dktX5_rule_1
theorem dksX5_rule_0 : cX5_rule.data.toList.drop 0 = dktX5_rule_0 := by decide +kernel
theorem dksX5_rule_1 : cX5_rule.data.toList.drop 24 = dktX5_rule_1 := dk_seg dksX5_rule_0 24 rfl rfl
theorem dX5_rule_0 : decode cX5_rule 0 = .ok (.aload_n 0, 1) := dk_42 (dk_at dksX5_rule_0 0 rfl rfl)
theorem dX5_rule_1 : decode cX5_rule 1 = .ok (.iconst 0, 1) := dk_3 (dk_at dksX5_rule_0 1 rfl rfl)
theorem dX5_rule_2 : decode cX5_rule 2 = .ok (.putfield 78, 3) := dk_181 0 78 (dk_at dksX5_rule_0 2 rfl rfl)
theorem dX5_rule_5 : decode cX5_rule 5 = .ok (.iload_n 1, 1) := dk_27 (dk_at dksX5_rule_0 5 rfl rfl)
theorem dX5_rule_6 : decode cX5_rule 6 = .ok (.i2l, 1) := dk_133 (dk_at dksX5_rule_0 6 rfl rfl)
theorem dX5_rule_7 : decode cX5_rule 7 = .ok (.lconst 0, 1) := dk_9 (dk_at dksX5_rule_0 7 rfl rfl)
theorem dX5_rule_8 : decode cX5_rule 8 = .ok (.ldc2_w 155, 3) := dk_20 0 155 (dk_at dksX5_rule_0 8 rfl rfl)
theorem dX5_rule_11 : decode cX5_rule 11 = .ok (.invokestatic 85, 3) := dk_184 0 85 (dk_at dksX5_rule_0 11 rfl rfl)
theorem dX5_rule_14 : decode cX5_rule 14 = .ok (.ifCond .ne 5, 3) := dk_154 0 5 (dk_at dksX5_rule_0 14 rfl rfl)
theorem dX5_rule_17 : decode cX5_rule 17 = .ok (.iconst (-1), 1) := dk_2 (dk_at dksX5_rule_0 17 rfl rfl)
theorem dX5_rule_18 : decode cX5_rule 18 = .ok (.ireturn, 1) := dk_172 (dk_at dksX5_rule_0 18 rfl rfl)
theorem dX5_rule_19 : decode cX5_rule 19 = .ok (.aload_n 0, 1) := dk_42 (dk_at dksX5_rule_0 19 rfl rfl)
theorem dX5_rule_20 : decode cX5_rule 20 = .ok (.getfield 138, 3) := dk_180 0 138 (dk_at dksX5_rule_0 20 rfl rfl)
theorem dX5_rule_23 : decode cX5_rule 23 = .ok (.istore_n 2, 1) := dk_61 (dk_at dksX5_rule_0 23 rfl rfl)
theorem dX5_rule_24 : decode cX5_rule 24 = .ok (.aload_n 0, 1) := dk_42 (dk_at dksX5_rule_1 0 rfl rfl)
theorem dX5_rule_25 : decode cX5_rule 25 = .ok (.iload_n 1, 1) := dk_27 (dk_at dksX5_rule_1 1 rfl rfl)
theorem dX5_rule_26 : decode cX5_rule 26 = .ok (.putfield 138, 3) := dk_181 0 138 (dk_at dksX5_rule_1 2 rfl rfl)
theorem dX5_rule_29 : decode cX5_rule 29 = .ok (.iload_n 2, 1) := dk_28 (dk_at dksX5_rule_1 5 rfl rfl)
theorem dX5_rule_30 : decode cX5_rule 30 = .ok (.ireturn, 1) := dk_172 (dk_at dksX5_rule_1 6 rfl rfl)
abbrev cX5_call : ByteArray := prog_13_method_28_code
def yX5_call : MethodName := ⟨RX5, "call", "(I)I"⟩
def dkwX5_call_1 : List UInt8 := [167, 0, 22, 42, 180, 0, 165, 16, 12, 160, 0, 8, 16, 253, 167, 0, 8, 42, 27, 182, 0, 179, 172]
abbrev dktX5_call_1 : List UInt8 := dkwX5_call_1 ++ []
def dkwX5_call_0 : List UInt8 := [42, 3, 181, 0, 78, 42, 27, 182, 0, 105, 154, 0, 5, 2, 172, 42, 180, 0, 96, 154, 0, 8, 16, 254]
abbrev dktX5_call_0 : List UInt8 := dkwX5_call_0 ++ dktX5_call_1
theorem dksX5_call_0 : cX5_call.data.toList.drop 0 = dktX5_call_0 := by decide +kernel
theorem dksX5_call_1 : cX5_call.data.toList.drop 24 = dktX5_call_1 := dk_seg dksX5_call_0 24 rfl rfl
theorem dX5_call_0 : decode cX5_call 0 = .ok (.aload_n 0, 1) := dk_42 (dk_at dksX5_call_0 0 rfl rfl)
theorem dX5_call_1 : decode cX5_call 1 = .ok (.iconst 0, 1) := dk_3 (dk_at dksX5_call_0 1 rfl rfl)
theorem dX5_call_2 : decode cX5_call 2 = .ok (.putfield 78, 3) := dk_181 0 78 (dk_at dksX5_call_0 2 rfl rfl)
theorem dX5_call_5 : decode cX5_call 5 = .ok (.aload_n 0, 1) := dk_42 (dk_at dksX5_call_0 5 rfl rfl)
theorem dX5_call_6 : decode cX5_call 6 = .ok (.iload_n 1, 1) := dk_27 (dk_at dksX5_call_0 6 rfl rfl)
theorem dX5_call_7 : decode cX5_call 7 = .ok (.invokevirtual 105, 3) := dk_182 0 105 (dk_at dksX5_call_0 7 rfl rfl)
theorem dX5_call_10 : decode cX5_call 10 = .ok (.ifCond .ne 5, 3) := dk_154 0 5 (dk_at dksX5_call_0 10 rfl rfl)
theorem dX5_call_13 : decode cX5_call 13 = .ok (.iconst (-1), 1) := dk_2 (dk_at dksX5_call_0 13 rfl rfl)
theorem dX5_call_14 : decode cX5_call 14 = .ok (.ireturn, 1) := dk_172 (dk_at dksX5_call_0 14 rfl rfl)
theorem dX5_call_15 : decode cX5_call 15 = .ok (.aload_n 0, 1) := dk_42 (dk_at dksX5_call_0 15 rfl rfl)
theorem dX5_call_16 : decode cX5_call 16 = .ok (.getfield 96, 3) := dk_180 0 96 (dk_at dksX5_call_0 16 rfl rfl)
theorem dX5_call_19 : decode cX5_call 19 = .ok (.ifCond .ne 8, 3) := dk_154 0 8 (dk_at dksX5_call_0 19 rfl rfl)
theorem dX5_call_22 : decode cX5_call 22 = .ok (.bipush (-2), 2) := dk_16 254 (dk_at dksX5_call_0 22 rfl rfl)
theorem dX5_call_24 : decode cX5_call 24 = .ok (.goto 22, 3) := dk_167 0 22 (dk_at dksX5_call_1 0 rfl rfl)
theorem dX5_call_27 : decode cX5_call 27 = .ok (.aload_n 0, 1) := dk_42 (dk_at dksX5_call_1 3 rfl rfl)
theorem dX5_call_28 : decode cX5_call 28 = .ok (.getfield 165, 3) := dk_180 0 165 (dk_at dksX5_call_1 4 rfl rfl)
theorem dX5_call_31 : decode cX5_call 31 = .ok (.bipush 12, 2) := dk_16 12 (dk_at dksX5_call_1 7 rfl rfl)
theorem dX5_call_33 : decode cX5_call 33 = .ok (.if_icmp .ne 8, 3) := dk_160 0 8 (dk_at dksX5_call_1 9 rfl rfl)
theorem dX5_call_36 : decode cX5_call 36 = .ok (.bipush (-3), 2) := dk_16 253 (dk_at dksX5_call_1 12 rfl rfl)
theorem dX5_call_38 : decode cX5_call 38 = .ok (.goto 8, 3) := dk_167 0 8 (dk_at dksX5_call_1 14 rfl rfl)
theorem dX5_call_41 : decode cX5_call 41 = .ok (.aload_n 0, 1) := dk_42 (dk_at dksX5_call_1 17 rfl rfl)
theorem dX5_call_42 : decode cX5_call 42 = .ok (.iload_n 1, 1) := dk_27 (dk_at dksX5_call_1 18 rfl rfl)
theorem dX5_call_43 : decode cX5_call 43 = .ok (.invokevirtual 179, 3) := dk_182 0 179 (dk_at dksX5_call_1 19 rfl rfl)
theorem dX5_call_46 : decode cX5_call 46 = .ok (.ireturn, 1) := dk_172 (dk_at dksX5_call_1 22 rfl rfl)
abbrev cX5_comes : ByteArray := prog_13_method_27_code
def yX5_comes : MethodName := ⟨RX5, "comes", "(I)I"⟩
def dkwX5_comes_8 : List UInt8 := [42, 89, 180, 0, 165, 4, 96, 181, 0, 165, 28, 172]
abbrev dktX5_comes_8 : List UInt8 := dkwX5_comes_8 ++ []
def dkwX5_comes_7 : List UInt8 := [180, 0, 25, 28, 92, 46, 42, 180, 0, 34, 42, 180, 0, 165, 46, 96, 79, 42, 180, 0, 22, 28, 27, 79]
abbrev dktX5_comes_7 : List UInt8 := dkwX5_comes_7 ++ dktX5_comes_8
def dkwX5_comes_6 : List UInt8 := [180, 0, 168, 181, 0, 168, 42, 42, 180, 0, 46, 17, 2, 0, 42, 180, 0, 165, 104, 27, 182, 0, 147, 42]
abbrev dktX5_comes_6 : List UInt8 := dkwX5_comes_6 ++ dktX5_comes_7
def dkwX5_comes_5 : List UInt8 := [180, 0, 138, 5, 160, 0, 19, 42, 42, 180, 0, 22, 27, 182, 0, 130, 154, 0, 7, 28, 167, 0, 7, 42]
abbrev dktX5_comes_5 : List UInt8 := dkwX5_comes_5 ++ dktX5_comes_6
def dkwX5_comes_4 : List UInt8 := [42, 180, 0, 22, 28, 46, 79, 42, 180, 0, 43, 42, 180, 0, 165, 42, 180, 0, 168, 79, 42, 42]
abbrev dktX5_comes_4 : List UInt8 := dkwX5_comes_4 ++ dktX5_comes_5
def dkwX5_comes_3 : List UInt8 := [96, 46, 79, 42, 180, 0, 37, 42, 180, 0, 165, 42, 180, 0, 138, 79, 42, 180, 0, 40, 42, 180, 0, 165]
abbrev dktX5_comes_3 : List UInt8 := dkwX5_comes_3 ++ dktX5_comes_4
def dkwX5_comes_2 : List UInt8 := [28, 79, 42, 180, 0, 34, 42, 180, 0, 165, 42, 180, 0, 19, 16, 6, 42, 180, 0, 22, 28, 46, 104, 27]
abbrev dktX5_comes_2 : List UInt8 := dkwX5_comes_2 ++ dktX5_comes_3
def dkwX5_comes_1 : List UInt8 := [104, 27, 182, 0, 175, 61, 42, 180, 0, 28, 42, 180, 0, 165, 27, 79, 42, 180, 0, 31, 42, 180, 0, 165]
abbrev dktX5_comes_1 : List UInt8 := dkwX5_comes_1 ++ dktX5_comes_2
def dkwX5_comes_0 : List UInt8 := [42, 42, 180, 0, 22, 42, 180, 0, 25, 42, 180, 0, 168, 42, 180, 0, 46, 17, 2, 0, 42, 180, 0, 165]
abbrev dktX5_comes_0 : List UInt8 := dkwX5_comes_0 ++ dktX5_comes_1
theorem dksX5_comes_0 : cX5_comes.data.toList.drop 0 = dktX5_comes_0 := by decide +kernel
theorem dksX5_comes_1 : cX5_comes.data.toList.drop 24 = dktX5_comes_1 := dk_seg dksX5_comes_0 24 rfl rfl
theorem dksX5_comes_2 : cX5_comes.data.toList.drop 48 = dktX5_comes_2 := dk_seg dksX5_comes_1 24 rfl rfl
theorem dksX5_comes_3 : cX5_comes.data.toList.drop 72 = dktX5_comes_3 := dk_seg dksX5_comes_2 24 rfl rfl
theorem dksX5_comes_4 : cX5_comes.data.toList.drop 96 = dktX5_comes_4 := dk_seg dksX5_comes_3 24 rfl rfl
theorem dksX5_comes_5 : cX5_comes.data.toList.drop 118 = dktX5_comes_5 := dk_seg dksX5_comes_4 22 rfl rfl
theorem dksX5_comes_6 : cX5_comes.data.toList.drop 142 = dktX5_comes_6 := dk_seg dksX5_comes_5 24 rfl rfl
theorem dksX5_comes_7 : cX5_comes.data.toList.drop 166 = dktX5_comes_7 := dk_seg dksX5_comes_6 24 rfl rfl
theorem dksX5_comes_8 : cX5_comes.data.toList.drop 190 = dktX5_comes_8 := dk_seg dksX5_comes_7 24 rfl rfl
theorem dX5_comes_0 : decode cX5_comes 0 = .ok (.aload_n 0, 1) := dk_42 (dk_at dksX5_comes_0 0 rfl rfl)
theorem dX5_comes_1 : decode cX5_comes 1 = .ok (.aload_n 0, 1) := dk_42 (dk_at dksX5_comes_0 1 rfl rfl)
theorem dX5_comes_2 : decode cX5_comes 2 = .ok (.getfield 22, 3) := dk_180 0 22 (dk_at dksX5_comes_0 2 rfl rfl)
theorem dX5_comes_5 : decode cX5_comes 5 = .ok (.aload_n 0, 1) := dk_42 (dk_at dksX5_comes_0 5 rfl rfl)
theorem dX5_comes_6 : decode cX5_comes 6 = .ok (.getfield 25, 3) := dk_180 0 25 (dk_at dksX5_comes_0 6 rfl rfl)
theorem dX5_comes_9 : decode cX5_comes 9 = .ok (.aload_n 0, 1) := dk_42 (dk_at dksX5_comes_0 9 rfl rfl)
theorem dX5_comes_10 : decode cX5_comes 10 = .ok (.getfield 168, 3) := dk_180 0 168 (dk_at dksX5_comes_0 10 rfl rfl)
theorem dX5_comes_13 : decode cX5_comes 13 = .ok (.aload_n 0, 1) := dk_42 (dk_at dksX5_comes_0 13 rfl rfl)
theorem dX5_comes_14 : decode cX5_comes 14 = .ok (.getfield 46, 3) := dk_180 0 46 (dk_at dksX5_comes_0 14 rfl rfl)
theorem dX5_comes_17 : decode cX5_comes 17 = .ok (.sipush 512, 3) := dk_17 2 0 (dk_at dksX5_comes_0 17 rfl rfl)
theorem dX5_comes_20 : decode cX5_comes 20 = .ok (.aload_n 0, 1) := dk_42 (dk_at dksX5_comes_0 20 rfl rfl)
theorem dX5_comes_21 : decode cX5_comes 21 = .ok (.getfield 165, 3) := dk_180 0 165 (dk_at dksX5_comes_0 21 rfl rfl)
theorem dX5_comes_24 : decode cX5_comes 24 = .ok (.imul, 1) := dk_104 (dk_at dksX5_comes_1 0 rfl rfl)
theorem dX5_comes_25 : decode cX5_comes 25 = .ok (.iload_n 1, 1) := dk_27 (dk_at dksX5_comes_1 1 rfl rfl)
theorem dX5_comes_26 : decode cX5_comes 26 = .ok (.invokevirtual 175, 3) := dk_182 0 175 (dk_at dksX5_comes_1 2 rfl rfl)
theorem dX5_comes_29 : decode cX5_comes 29 = .ok (.istore_n 2, 1) := dk_61 (dk_at dksX5_comes_1 5 rfl rfl)
theorem dX5_comes_30 : decode cX5_comes 30 = .ok (.aload_n 0, 1) := dk_42 (dk_at dksX5_comes_1 6 rfl rfl)
theorem dX5_comes_31 : decode cX5_comes 31 = .ok (.getfield 28, 3) := dk_180 0 28 (dk_at dksX5_comes_1 7 rfl rfl)
theorem dX5_comes_34 : decode cX5_comes 34 = .ok (.aload_n 0, 1) := dk_42 (dk_at dksX5_comes_1 10 rfl rfl)
theorem dX5_comes_35 : decode cX5_comes 35 = .ok (.getfield 165, 3) := dk_180 0 165 (dk_at dksX5_comes_1 11 rfl rfl)
theorem dX5_comes_38 : decode cX5_comes 38 = .ok (.iload_n 1, 1) := dk_27 (dk_at dksX5_comes_1 14 rfl rfl)
theorem dX5_comes_39 : decode cX5_comes 39 = .ok (.iastore, 1) := dk_79 (dk_at dksX5_comes_1 15 rfl rfl)
theorem dX5_comes_40 : decode cX5_comes 40 = .ok (.aload_n 0, 1) := dk_42 (dk_at dksX5_comes_1 16 rfl rfl)
theorem dX5_comes_41 : decode cX5_comes 41 = .ok (.getfield 31, 3) := dk_180 0 31 (dk_at dksX5_comes_1 17 rfl rfl)
theorem dX5_comes_44 : decode cX5_comes 44 = .ok (.aload_n 0, 1) := dk_42 (dk_at dksX5_comes_1 20 rfl rfl)
theorem dX5_comes_45 : decode cX5_comes 45 = .ok (.getfield 165, 3) := dk_180 0 165 (dk_at dksX5_comes_1 21 rfl rfl)
theorem dX5_comes_48 : decode cX5_comes 48 = .ok (.iload_n 2, 1) := dk_28 (dk_at dksX5_comes_2 0 rfl rfl)
theorem dX5_comes_49 : decode cX5_comes 49 = .ok (.iastore, 1) := dk_79 (dk_at dksX5_comes_2 1 rfl rfl)
theorem dX5_comes_50 : decode cX5_comes 50 = .ok (.aload_n 0, 1) := dk_42 (dk_at dksX5_comes_2 2 rfl rfl)
theorem dX5_comes_51 : decode cX5_comes 51 = .ok (.getfield 34, 3) := dk_180 0 34 (dk_at dksX5_comes_2 3 rfl rfl)
theorem dX5_comes_54 : decode cX5_comes 54 = .ok (.aload_n 0, 1) := dk_42 (dk_at dksX5_comes_2 6 rfl rfl)
theorem dX5_comes_55 : decode cX5_comes 55 = .ok (.getfield 165, 3) := dk_180 0 165 (dk_at dksX5_comes_2 7 rfl rfl)
theorem dX5_comes_58 : decode cX5_comes 58 = .ok (.aload_n 0, 1) := dk_42 (dk_at dksX5_comes_2 10 rfl rfl)
theorem dX5_comes_59 : decode cX5_comes 59 = .ok (.getfield 19, 3) := dk_180 0 19 (dk_at dksX5_comes_2 11 rfl rfl)
theorem dX5_comes_62 : decode cX5_comes 62 = .ok (.bipush 6, 2) := dk_16 6 (dk_at dksX5_comes_2 14 rfl rfl)
theorem dX5_comes_64 : decode cX5_comes 64 = .ok (.aload_n 0, 1) := dk_42 (dk_at dksX5_comes_2 16 rfl rfl)
theorem dX5_comes_65 : decode cX5_comes 65 = .ok (.getfield 22, 3) := dk_180 0 22 (dk_at dksX5_comes_2 17 rfl rfl)
theorem dX5_comes_68 : decode cX5_comes 68 = .ok (.iload_n 2, 1) := dk_28 (dk_at dksX5_comes_2 20 rfl rfl)
theorem dX5_comes_69 : decode cX5_comes 69 = .ok (.iaload, 1) := dk_46 (dk_at dksX5_comes_2 21 rfl rfl)
theorem dX5_comes_70 : decode cX5_comes 70 = .ok (.imul, 1) := dk_104 (dk_at dksX5_comes_2 22 rfl rfl)
theorem dX5_comes_71 : decode cX5_comes 71 = .ok (.iload_n 1, 1) := dk_27 (dk_at dksX5_comes_2 23 rfl rfl)
theorem dX5_comes_72 : decode cX5_comes 72 = .ok (.iadd, 1) := dk_96 (dk_at dksX5_comes_3 0 rfl rfl)
theorem dX5_comes_73 : decode cX5_comes 73 = .ok (.iaload, 1) := dk_46 (dk_at dksX5_comes_3 1 rfl rfl)
theorem dX5_comes_74 : decode cX5_comes 74 = .ok (.iastore, 1) := dk_79 (dk_at dksX5_comes_3 2 rfl rfl)
theorem dX5_comes_75 : decode cX5_comes 75 = .ok (.aload_n 0, 1) := dk_42 (dk_at dksX5_comes_3 3 rfl rfl)
theorem dX5_comes_76 : decode cX5_comes 76 = .ok (.getfield 37, 3) := dk_180 0 37 (dk_at dksX5_comes_3 4 rfl rfl)
theorem dX5_comes_79 : decode cX5_comes 79 = .ok (.aload_n 0, 1) := dk_42 (dk_at dksX5_comes_3 7 rfl rfl)
theorem dX5_comes_80 : decode cX5_comes 80 = .ok (.getfield 165, 3) := dk_180 0 165 (dk_at dksX5_comes_3 8 rfl rfl)
theorem dX5_comes_83 : decode cX5_comes 83 = .ok (.aload_n 0, 1) := dk_42 (dk_at dksX5_comes_3 11 rfl rfl)
theorem dX5_comes_84 : decode cX5_comes 84 = .ok (.getfield 138, 3) := dk_180 0 138 (dk_at dksX5_comes_3 12 rfl rfl)
theorem dX5_comes_87 : decode cX5_comes 87 = .ok (.iastore, 1) := dk_79 (dk_at dksX5_comes_3 15 rfl rfl)
theorem dX5_comes_88 : decode cX5_comes 88 = .ok (.aload_n 0, 1) := dk_42 (dk_at dksX5_comes_3 16 rfl rfl)
theorem dX5_comes_89 : decode cX5_comes 89 = .ok (.getfield 40, 3) := dk_180 0 40 (dk_at dksX5_comes_3 17 rfl rfl)
theorem dX5_comes_92 : decode cX5_comes 92 = .ok (.aload_n 0, 1) := dk_42 (dk_at dksX5_comes_3 20 rfl rfl)
theorem dX5_comes_93 : decode cX5_comes 93 = .ok (.getfield 165, 3) := dk_180 0 165 (dk_at dksX5_comes_3 21 rfl rfl)
theorem dX5_comes_96 : decode cX5_comes 96 = .ok (.aload_n 0, 1) := dk_42 (dk_at dksX5_comes_4 0 rfl rfl)
theorem dX5_comes_97 : decode cX5_comes 97 = .ok (.getfield 22, 3) := dk_180 0 22 (dk_at dksX5_comes_4 1 rfl rfl)
theorem dX5_comes_100 : decode cX5_comes 100 = .ok (.iload_n 2, 1) := dk_28 (dk_at dksX5_comes_4 4 rfl rfl)
theorem dX5_comes_101 : decode cX5_comes 101 = .ok (.iaload, 1) := dk_46 (dk_at dksX5_comes_4 5 rfl rfl)
theorem dX5_comes_102 : decode cX5_comes 102 = .ok (.iastore, 1) := dk_79 (dk_at dksX5_comes_4 6 rfl rfl)
theorem dX5_comes_103 : decode cX5_comes 103 = .ok (.aload_n 0, 1) := dk_42 (dk_at dksX5_comes_4 7 rfl rfl)
theorem dX5_comes_104 : decode cX5_comes 104 = .ok (.getfield 43, 3) := dk_180 0 43 (dk_at dksX5_comes_4 8 rfl rfl)
theorem dX5_comes_107 : decode cX5_comes 107 = .ok (.aload_n 0, 1) := dk_42 (dk_at dksX5_comes_4 11 rfl rfl)
theorem dX5_comes_108 : decode cX5_comes 108 = .ok (.getfield 165, 3) := dk_180 0 165 (dk_at dksX5_comes_4 12 rfl rfl)
theorem dX5_comes_111 : decode cX5_comes 111 = .ok (.aload_n 0, 1) := dk_42 (dk_at dksX5_comes_4 15 rfl rfl)
theorem dX5_comes_112 : decode cX5_comes 112 = .ok (.getfield 168, 3) := dk_180 0 168 (dk_at dksX5_comes_4 16 rfl rfl)
theorem dX5_comes_115 : decode cX5_comes 115 = .ok (.iastore, 1) := dk_79 (dk_at dksX5_comes_4 19 rfl rfl)
theorem dX5_comes_116 : decode cX5_comes 116 = .ok (.aload_n 0, 1) := dk_42 (dk_at dksX5_comes_4 20 rfl rfl)
theorem dX5_comes_117 : decode cX5_comes 117 = .ok (.aload_n 0, 1) := dk_42 (dk_at dksX5_comes_4 21 rfl rfl)
theorem dX5_comes_118 : decode cX5_comes 118 = .ok (.getfield 138, 3) := dk_180 0 138 (dk_at dksX5_comes_5 0 rfl rfl)
theorem dX5_comes_121 : decode cX5_comes 121 = .ok (.iconst 2, 1) := dk_5 (dk_at dksX5_comes_5 3 rfl rfl)
theorem dX5_comes_122 : decode cX5_comes 122 = .ok (.if_icmp .ne 19, 3) := dk_160 0 19 (dk_at dksX5_comes_5 4 rfl rfl)
theorem dX5_comes_125 : decode cX5_comes 125 = .ok (.aload_n 0, 1) := dk_42 (dk_at dksX5_comes_5 7 rfl rfl)
theorem dX5_comes_126 : decode cX5_comes 126 = .ok (.aload_n 0, 1) := dk_42 (dk_at dksX5_comes_5 8 rfl rfl)
theorem dX5_comes_127 : decode cX5_comes 127 = .ok (.getfield 22, 3) := dk_180 0 22 (dk_at dksX5_comes_5 9 rfl rfl)
theorem dX5_comes_130 : decode cX5_comes 130 = .ok (.iload_n 1, 1) := dk_27 (dk_at dksX5_comes_5 12 rfl rfl)
theorem dX5_comes_131 : decode cX5_comes 131 = .ok (.invokevirtual 130, 3) := dk_182 0 130 (dk_at dksX5_comes_5 13 rfl rfl)
theorem dX5_comes_134 : decode cX5_comes 134 = .ok (.ifCond .ne 7, 3) := dk_154 0 7 (dk_at dksX5_comes_5 16 rfl rfl)
theorem dX5_comes_137 : decode cX5_comes 137 = .ok (.iload_n 2, 1) := dk_28 (dk_at dksX5_comes_5 19 rfl rfl)
theorem dX5_comes_138 : decode cX5_comes 138 = .ok (.goto 7, 3) := dk_167 0 7 (dk_at dksX5_comes_5 20 rfl rfl)
theorem dX5_comes_141 : decode cX5_comes 141 = .ok (.aload_n 0, 1) := dk_42 (dk_at dksX5_comes_5 23 rfl rfl)
theorem dX5_comes_142 : decode cX5_comes 142 = .ok (.getfield 168, 3) := dk_180 0 168 (dk_at dksX5_comes_6 0 rfl rfl)
theorem dX5_comes_145 : decode cX5_comes 145 = .ok (.putfield 168, 3) := dk_181 0 168 (dk_at dksX5_comes_6 3 rfl rfl)
theorem dX5_comes_148 : decode cX5_comes 148 = .ok (.aload_n 0, 1) := dk_42 (dk_at dksX5_comes_6 6 rfl rfl)
theorem dX5_comes_149 : decode cX5_comes 149 = .ok (.aload_n 0, 1) := dk_42 (dk_at dksX5_comes_6 7 rfl rfl)
theorem dX5_comes_150 : decode cX5_comes 150 = .ok (.getfield 46, 3) := dk_180 0 46 (dk_at dksX5_comes_6 8 rfl rfl)
theorem dX5_comes_153 : decode cX5_comes 153 = .ok (.sipush 512, 3) := dk_17 2 0 (dk_at dksX5_comes_6 11 rfl rfl)
theorem dX5_comes_156 : decode cX5_comes 156 = .ok (.aload_n 0, 1) := dk_42 (dk_at dksX5_comes_6 14 rfl rfl)
theorem dX5_comes_157 : decode cX5_comes 157 = .ok (.getfield 165, 3) := dk_180 0 165 (dk_at dksX5_comes_6 15 rfl rfl)
theorem dX5_comes_160 : decode cX5_comes 160 = .ok (.imul, 1) := dk_104 (dk_at dksX5_comes_6 18 rfl rfl)
theorem dX5_comes_161 : decode cX5_comes 161 = .ok (.iload_n 1, 1) := dk_27 (dk_at dksX5_comes_6 19 rfl rfl)
theorem dX5_comes_162 : decode cX5_comes 162 = .ok (.invokevirtual 147, 3) := dk_182 0 147 (dk_at dksX5_comes_6 20 rfl rfl)
theorem dX5_comes_165 : decode cX5_comes 165 = .ok (.aload_n 0, 1) := dk_42 (dk_at dksX5_comes_6 23 rfl rfl)
theorem dX5_comes_166 : decode cX5_comes 166 = .ok (.getfield 25, 3) := dk_180 0 25 (dk_at dksX5_comes_7 0 rfl rfl)
theorem dX5_comes_169 : decode cX5_comes 169 = .ok (.iload_n 2, 1) := dk_28 (dk_at dksX5_comes_7 3 rfl rfl)
theorem dX5_comes_170 : decode cX5_comes 170 = .ok (.dup2, 1) := dk_92 (dk_at dksX5_comes_7 4 rfl rfl)
theorem dX5_comes_171 : decode cX5_comes 171 = .ok (.iaload, 1) := dk_46 (dk_at dksX5_comes_7 5 rfl rfl)
theorem dX5_comes_172 : decode cX5_comes 172 = .ok (.aload_n 0, 1) := dk_42 (dk_at dksX5_comes_7 6 rfl rfl)
theorem dX5_comes_173 : decode cX5_comes 173 = .ok (.getfield 34, 3) := dk_180 0 34 (dk_at dksX5_comes_7 7 rfl rfl)
theorem dX5_comes_176 : decode cX5_comes 176 = .ok (.aload_n 0, 1) := dk_42 (dk_at dksX5_comes_7 10 rfl rfl)
theorem dX5_comes_177 : decode cX5_comes 177 = .ok (.getfield 165, 3) := dk_180 0 165 (dk_at dksX5_comes_7 11 rfl rfl)
theorem dX5_comes_180 : decode cX5_comes 180 = .ok (.iaload, 1) := dk_46 (dk_at dksX5_comes_7 14 rfl rfl)
theorem dX5_comes_181 : decode cX5_comes 181 = .ok (.iadd, 1) := dk_96 (dk_at dksX5_comes_7 15 rfl rfl)
theorem dX5_comes_182 : decode cX5_comes 182 = .ok (.iastore, 1) := dk_79 (dk_at dksX5_comes_7 16 rfl rfl)
theorem dX5_comes_183 : decode cX5_comes 183 = .ok (.aload_n 0, 1) := dk_42 (dk_at dksX5_comes_7 17 rfl rfl)
theorem dX5_comes_184 : decode cX5_comes 184 = .ok (.getfield 22, 3) := dk_180 0 22 (dk_at dksX5_comes_7 18 rfl rfl)
theorem dX5_comes_187 : decode cX5_comes 187 = .ok (.iload_n 2, 1) := dk_28 (dk_at dksX5_comes_7 21 rfl rfl)
theorem dX5_comes_188 : decode cX5_comes 188 = .ok (.iload_n 1, 1) := dk_27 (dk_at dksX5_comes_7 22 rfl rfl)
theorem dX5_comes_189 : decode cX5_comes 189 = .ok (.iastore, 1) := dk_79 (dk_at dksX5_comes_7 23 rfl rfl)
theorem dX5_comes_190 : decode cX5_comes 190 = .ok (.aload_n 0, 1) := dk_42 (dk_at dksX5_comes_8 0 rfl rfl)
theorem dX5_comes_191 : decode cX5_comes 191 = .ok (.dup, 1) := dk_89 (dk_at dksX5_comes_8 1 rfl rfl)
theorem dX5_comes_192 : decode cX5_comes 192 = .ok (.getfield 165, 3) := dk_180 0 165 (dk_at dksX5_comes_8 2 rfl rfl)
theorem dX5_comes_195 : decode cX5_comes 195 = .ok (.iconst 1, 1) := dk_4 (dk_at dksX5_comes_8 5 rfl rfl)
theorem dX5_comes_196 : decode cX5_comes 196 = .ok (.iadd, 1) := dk_96 (dk_at dksX5_comes_8 6 rfl rfl)
theorem dX5_comes_197 : decode cX5_comes 197 = .ok (.putfield 165, 3) := dk_181 0 165 (dk_at dksX5_comes_8 7 rfl rfl)
theorem dX5_comes_200 : decode cX5_comes 200 = .ok (.iload_n 2, 1) := dk_28 (dk_at dksX5_comes_8 10 rfl rfl)
theorem dX5_comes_201 : decode cX5_comes 201 = .ok (.ireturn, 1) := dk_172 (dk_at dksX5_comes_8 11 rfl rfl)
abbrev cX5_chosen : ByteArray := prog_13_method_23_code
def yX5_chosen : MethodName := ⟨RX5, "chosen", "([I[II[III)I"⟩
def dkwX5_chosen_10 : List UInt8 := [162, 0, 11, 21, 12, 54, 9, 21, 11, 54, 10, 132, 11, 1, 167, 255, 190, 21, 10, 172]
abbrev dktX5_chosen_10 : List UInt8 := dkwX5_chosen_10 ++ []
def dkwX5_chosen_9 : List UInt8 := [42, 180, 0, 19, 16, 6, 43, 21, 11, 46, 104, 21, 6, 96, 46, 96, 54, 12, 21, 12, 21, 9]
abbrev dktX5_chosen_9 : List UInt8 := dkwX5_chosen_9 ++ dktX5_chosen_10
def dkwX5_chosen_8 : List UInt8 := [162, 0, 63, 42, 25, 4, 21, 5, 17, 2, 0, 96, 21, 8, 21, 11, 21, 6, 184, 0, 113, 182, 0, 151]
abbrev dktX5_chosen_8 : List UInt8 := dkwX5_chosen_8 ++ dktX5_chosen_9
def dkwX5_chosen_7 : List UInt8 := [54, 8, 132, 9, 1, 167, 255, 230, 18, 89, 54, 9, 3, 54, 10, 3, 54, 11, 21, 11, 42, 180, 0, 96]
abbrev dktX5_chosen_7 : List UInt8 := dkwX5_chosen_7 ++ dktX5_chosen_8
def dkwX5_chosen_6 : List UInt8 := [54, 9, 21, 9, 42, 180, 0, 96, 162, 0, 23, 21, 8, 43, 21, 9, 46, 6, 21, 9, 104, 120, 128]
abbrev dktX5_chosen_6 : List UInt8 := dkwX5_chosen_6 ++ dktX5_chosen_7
def dkwX5_chosen_5 : List UInt8 := [42, 43, 44, 21, 6, 182, 0, 141, 172, 42, 25, 4, 21, 5, 21, 6, 182, 0, 147, 3, 54, 8, 3]
abbrev dktX5_chosen_5 : List UInt8 := dkwX5_chosen_5 ++ dktX5_chosen_6
def dkwX5_chosen_4 : List UInt8 := [181, 0, 124, 21, 7, 153, 0, 11, 42, 43, 21, 6, 182, 0, 134, 172, 42, 180, 0, 96, 4, 160, 0, 12]
abbrev dktX5_chosen_4 : List UInt8 := dkwX5_chosen_4 ++ dktX5_chosen_5
def dkwX5_chosen_3 : List UInt8 := [182, 0, 134, 167, 0, 11, 29, 4, 96, 42, 180, 0, 96, 112, 172, 42, 89, 180, 0, 124, 20, 0, 145, 97]
abbrev dktX5_chosen_3 : List UInt8 := dkwX5_chosen_3 ++ dktX5_chosen_4
def dkwX5_chosen_2 : List UInt8 := [160, 0, 39, 42, 89, 180, 0, 124, 20, 0, 99, 97, 181, 0, 124, 21, 7, 153, 0, 13, 42, 43, 21, 6]
abbrev dktX5_chosen_2 : List UInt8 := dkwX5_chosen_2 ++ dktX5_chosen_3
def dkwX5_chosen_1 : List UInt8 := [42, 180, 0, 138, 4, 160, 0, 12, 42, 43, 44, 21, 6, 182, 0, 141, 172, 42, 180, 0, 138, 5]
abbrev dktX5_chosen_1 : List UInt8 := dkwX5_chosen_1 ++ dktX5_chosen_2
def dkwX5_chosen_0 : List UInt8 := [42, 43, 21, 6, 182, 0, 130, 54, 7, 42, 180, 0, 138, 154, 0, 11, 42, 43, 21, 6, 182, 0, 134, 172]
abbrev dktX5_chosen_0 : List UInt8 := dkwX5_chosen_0 ++ dktX5_chosen_1
theorem dksX5_chosen_0 : cX5_chosen.data.toList.drop 0 = dktX5_chosen_0 := by decide +kernel
theorem dksX5_chosen_1 : cX5_chosen.data.toList.drop 24 = dktX5_chosen_1 := dk_seg dksX5_chosen_0 24 rfl rfl
theorem dksX5_chosen_2 : cX5_chosen.data.toList.drop 46 = dktX5_chosen_2 := dk_seg dksX5_chosen_1 22 rfl rfl
theorem dksX5_chosen_3 : cX5_chosen.data.toList.drop 70 = dktX5_chosen_3 := dk_seg dksX5_chosen_2 24 rfl rfl
theorem dksX5_chosen_4 : cX5_chosen.data.toList.drop 94 = dktX5_chosen_4 := dk_seg dksX5_chosen_3 24 rfl rfl
theorem dksX5_chosen_5 : cX5_chosen.data.toList.drop 118 = dktX5_chosen_5 := dk_seg dksX5_chosen_4 24 rfl rfl
theorem dksX5_chosen_6 : cX5_chosen.data.toList.drop 141 = dktX5_chosen_6 := dk_seg dksX5_chosen_5 23 rfl rfl
theorem dksX5_chosen_7 : cX5_chosen.data.toList.drop 164 = dktX5_chosen_7 := dk_seg dksX5_chosen_6 23 rfl rfl
theorem dksX5_chosen_8 : cX5_chosen.data.toList.drop 188 = dktX5_chosen_8 := dk_seg dksX5_chosen_7 24 rfl rfl
theorem dksX5_chosen_9 : cX5_chosen.data.toList.drop 212 = dktX5_chosen_9 := dk_seg dksX5_chosen_8 24 rfl rfl
theorem dksX5_chosen_10 : cX5_chosen.data.toList.drop 234 = dktX5_chosen_10 := dk_seg dksX5_chosen_9 22 rfl rfl
theorem dX5_chosen_0 : decode cX5_chosen 0 = .ok (.aload_n 0, 1) := dk_42 (dk_at dksX5_chosen_0 0 rfl rfl)
theorem dX5_chosen_1 : decode cX5_chosen 1 = .ok (.aload_n 1, 1) := dk_43 (dk_at dksX5_chosen_0 1 rfl rfl)
theorem dX5_chosen_2 : decode cX5_chosen 2 = .ok (.iload 6, 2) := dk_21 6 (dk_at dksX5_chosen_0 2 rfl rfl)
theorem dX5_chosen_4 : decode cX5_chosen 4 = .ok (.invokevirtual 130, 3) := dk_182 0 130 (dk_at dksX5_chosen_0 4 rfl rfl)
theorem dX5_chosen_7 : decode cX5_chosen 7 = .ok (.istore 7, 2) := dk_54 7 (dk_at dksX5_chosen_0 7 rfl rfl)
theorem dX5_chosen_9 : decode cX5_chosen 9 = .ok (.aload_n 0, 1) := dk_42 (dk_at dksX5_chosen_0 9 rfl rfl)
theorem dX5_chosen_10 : decode cX5_chosen 10 = .ok (.getfield 138, 3) := dk_180 0 138 (dk_at dksX5_chosen_0 10 rfl rfl)
theorem dX5_chosen_13 : decode cX5_chosen 13 = .ok (.ifCond .ne 11, 3) := dk_154 0 11 (dk_at dksX5_chosen_0 13 rfl rfl)
theorem dX5_chosen_16 : decode cX5_chosen 16 = .ok (.aload_n 0, 1) := dk_42 (dk_at dksX5_chosen_0 16 rfl rfl)
theorem dX5_chosen_17 : decode cX5_chosen 17 = .ok (.aload_n 1, 1) := dk_43 (dk_at dksX5_chosen_0 17 rfl rfl)
theorem dX5_chosen_18 : decode cX5_chosen 18 = .ok (.iload 6, 2) := dk_21 6 (dk_at dksX5_chosen_0 18 rfl rfl)
theorem dX5_chosen_20 : decode cX5_chosen 20 = .ok (.invokevirtual 134, 3) := dk_182 0 134 (dk_at dksX5_chosen_0 20 rfl rfl)
theorem dX5_chosen_23 : decode cX5_chosen 23 = .ok (.ireturn, 1) := dk_172 (dk_at dksX5_chosen_0 23 rfl rfl)
theorem dX5_chosen_24 : decode cX5_chosen 24 = .ok (.aload_n 0, 1) := dk_42 (dk_at dksX5_chosen_1 0 rfl rfl)
theorem dX5_chosen_25 : decode cX5_chosen 25 = .ok (.getfield 138, 3) := dk_180 0 138 (dk_at dksX5_chosen_1 1 rfl rfl)
theorem dX5_chosen_28 : decode cX5_chosen 28 = .ok (.iconst 1, 1) := dk_4 (dk_at dksX5_chosen_1 4 rfl rfl)
theorem dX5_chosen_29 : decode cX5_chosen 29 = .ok (.if_icmp .ne 12, 3) := dk_160 0 12 (dk_at dksX5_chosen_1 5 rfl rfl)
theorem dX5_chosen_32 : decode cX5_chosen 32 = .ok (.aload_n 0, 1) := dk_42 (dk_at dksX5_chosen_1 8 rfl rfl)
theorem dX5_chosen_33 : decode cX5_chosen 33 = .ok (.aload_n 1, 1) := dk_43 (dk_at dksX5_chosen_1 9 rfl rfl)
theorem dX5_chosen_34 : decode cX5_chosen 34 = .ok (.aload_n 2, 1) := dk_44 (dk_at dksX5_chosen_1 10 rfl rfl)
theorem dX5_chosen_35 : decode cX5_chosen 35 = .ok (.iload 6, 2) := dk_21 6 (dk_at dksX5_chosen_1 11 rfl rfl)
theorem dX5_chosen_37 : decode cX5_chosen 37 = .ok (.invokevirtual 141, 3) := dk_182 0 141 (dk_at dksX5_chosen_1 13 rfl rfl)
theorem dX5_chosen_40 : decode cX5_chosen 40 = .ok (.ireturn, 1) := dk_172 (dk_at dksX5_chosen_1 16 rfl rfl)
theorem dX5_chosen_41 : decode cX5_chosen 41 = .ok (.aload_n 0, 1) := dk_42 (dk_at dksX5_chosen_1 17 rfl rfl)
theorem dX5_chosen_42 : decode cX5_chosen 42 = .ok (.getfield 138, 3) := dk_180 0 138 (dk_at dksX5_chosen_1 18 rfl rfl)
theorem dX5_chosen_45 : decode cX5_chosen 45 = .ok (.iconst 2, 1) := dk_5 (dk_at dksX5_chosen_1 21 rfl rfl)
theorem dX5_chosen_46 : decode cX5_chosen 46 = .ok (.if_icmp .ne 39, 3) := dk_160 0 39 (dk_at dksX5_chosen_2 0 rfl rfl)
theorem dX5_chosen_49 : decode cX5_chosen 49 = .ok (.aload_n 0, 1) := dk_42 (dk_at dksX5_chosen_2 3 rfl rfl)
theorem dX5_chosen_50 : decode cX5_chosen 50 = .ok (.dup, 1) := dk_89 (dk_at dksX5_chosen_2 4 rfl rfl)
theorem dX5_chosen_51 : decode cX5_chosen 51 = .ok (.getfield 124, 3) := dk_180 0 124 (dk_at dksX5_chosen_2 5 rfl rfl)
theorem dX5_chosen_54 : decode cX5_chosen 54 = .ok (.ldc2_w 99, 3) := dk_20 0 99 (dk_at dksX5_chosen_2 8 rfl rfl)
theorem dX5_chosen_57 : decode cX5_chosen 57 = .ok (.ladd, 1) := dk_97 (dk_at dksX5_chosen_2 11 rfl rfl)
theorem dX5_chosen_58 : decode cX5_chosen 58 = .ok (.putfield 124, 3) := dk_181 0 124 (dk_at dksX5_chosen_2 12 rfl rfl)
theorem dX5_chosen_61 : decode cX5_chosen 61 = .ok (.iload 7, 2) := dk_21 7 (dk_at dksX5_chosen_2 15 rfl rfl)
theorem dX5_chosen_63 : decode cX5_chosen 63 = .ok (.ifCond .eq 13, 3) := dk_153 0 13 (dk_at dksX5_chosen_2 17 rfl rfl)
theorem dX5_chosen_66 : decode cX5_chosen 66 = .ok (.aload_n 0, 1) := dk_42 (dk_at dksX5_chosen_2 20 rfl rfl)
theorem dX5_chosen_67 : decode cX5_chosen 67 = .ok (.aload_n 1, 1) := dk_43 (dk_at dksX5_chosen_2 21 rfl rfl)
theorem dX5_chosen_68 : decode cX5_chosen 68 = .ok (.iload 6, 2) := dk_21 6 (dk_at dksX5_chosen_2 22 rfl rfl)
theorem dX5_chosen_70 : decode cX5_chosen 70 = .ok (.invokevirtual 134, 3) := dk_182 0 134 (dk_at dksX5_chosen_3 0 rfl rfl)
theorem dX5_chosen_73 : decode cX5_chosen 73 = .ok (.goto 11, 3) := dk_167 0 11 (dk_at dksX5_chosen_3 3 rfl rfl)
theorem dX5_chosen_76 : decode cX5_chosen 76 = .ok (.iload_n 3, 1) := dk_29 (dk_at dksX5_chosen_3 6 rfl rfl)
theorem dX5_chosen_77 : decode cX5_chosen 77 = .ok (.iconst 1, 1) := dk_4 (dk_at dksX5_chosen_3 7 rfl rfl)
theorem dX5_chosen_78 : decode cX5_chosen 78 = .ok (.iadd, 1) := dk_96 (dk_at dksX5_chosen_3 8 rfl rfl)
theorem dX5_chosen_79 : decode cX5_chosen 79 = .ok (.aload_n 0, 1) := dk_42 (dk_at dksX5_chosen_3 9 rfl rfl)
theorem dX5_chosen_80 : decode cX5_chosen 80 = .ok (.getfield 96, 3) := dk_180 0 96 (dk_at dksX5_chosen_3 10 rfl rfl)
theorem dX5_chosen_83 : decode cX5_chosen 83 = .ok (.irem, 1) := dk_112 (dk_at dksX5_chosen_3 13 rfl rfl)
theorem dX5_chosen_84 : decode cX5_chosen 84 = .ok (.ireturn, 1) := dk_172 (dk_at dksX5_chosen_3 14 rfl rfl)
theorem dX5_chosen_85 : decode cX5_chosen 85 = .ok (.aload_n 0, 1) := dk_42 (dk_at dksX5_chosen_3 15 rfl rfl)
theorem dX5_chosen_86 : decode cX5_chosen 86 = .ok (.dup, 1) := dk_89 (dk_at dksX5_chosen_3 16 rfl rfl)
theorem dX5_chosen_87 : decode cX5_chosen 87 = .ok (.getfield 124, 3) := dk_180 0 124 (dk_at dksX5_chosen_3 17 rfl rfl)
theorem dX5_chosen_90 : decode cX5_chosen 90 = .ok (.ldc2_w 145, 3) := dk_20 0 145 (dk_at dksX5_chosen_3 20 rfl rfl)
theorem dX5_chosen_93 : decode cX5_chosen 93 = .ok (.ladd, 1) := dk_97 (dk_at dksX5_chosen_3 23 rfl rfl)
theorem dX5_chosen_94 : decode cX5_chosen 94 = .ok (.putfield 124, 3) := dk_181 0 124 (dk_at dksX5_chosen_4 0 rfl rfl)
theorem dX5_chosen_97 : decode cX5_chosen 97 = .ok (.iload 7, 2) := dk_21 7 (dk_at dksX5_chosen_4 3 rfl rfl)
theorem dX5_chosen_99 : decode cX5_chosen 99 = .ok (.ifCond .eq 11, 3) := dk_153 0 11 (dk_at dksX5_chosen_4 5 rfl rfl)
theorem dX5_chosen_102 : decode cX5_chosen 102 = .ok (.aload_n 0, 1) := dk_42 (dk_at dksX5_chosen_4 8 rfl rfl)
theorem dX5_chosen_103 : decode cX5_chosen 103 = .ok (.aload_n 1, 1) := dk_43 (dk_at dksX5_chosen_4 9 rfl rfl)
theorem dX5_chosen_104 : decode cX5_chosen 104 = .ok (.iload 6, 2) := dk_21 6 (dk_at dksX5_chosen_4 10 rfl rfl)
theorem dX5_chosen_106 : decode cX5_chosen 106 = .ok (.invokevirtual 134, 3) := dk_182 0 134 (dk_at dksX5_chosen_4 12 rfl rfl)
theorem dX5_chosen_109 : decode cX5_chosen 109 = .ok (.ireturn, 1) := dk_172 (dk_at dksX5_chosen_4 15 rfl rfl)
theorem dX5_chosen_110 : decode cX5_chosen 110 = .ok (.aload_n 0, 1) := dk_42 (dk_at dksX5_chosen_4 16 rfl rfl)
theorem dX5_chosen_111 : decode cX5_chosen 111 = .ok (.getfield 96, 3) := dk_180 0 96 (dk_at dksX5_chosen_4 17 rfl rfl)
theorem dX5_chosen_114 : decode cX5_chosen 114 = .ok (.iconst 1, 1) := dk_4 (dk_at dksX5_chosen_4 20 rfl rfl)
theorem dX5_chosen_115 : decode cX5_chosen 115 = .ok (.if_icmp .ne 12, 3) := dk_160 0 12 (dk_at dksX5_chosen_4 21 rfl rfl)
theorem dX5_chosen_118 : decode cX5_chosen 118 = .ok (.aload_n 0, 1) := dk_42 (dk_at dksX5_chosen_5 0 rfl rfl)
theorem dX5_chosen_119 : decode cX5_chosen 119 = .ok (.aload_n 1, 1) := dk_43 (dk_at dksX5_chosen_5 1 rfl rfl)
theorem dX5_chosen_120 : decode cX5_chosen 120 = .ok (.aload_n 2, 1) := dk_44 (dk_at dksX5_chosen_5 2 rfl rfl)
theorem dX5_chosen_121 : decode cX5_chosen 121 = .ok (.iload 6, 2) := dk_21 6 (dk_at dksX5_chosen_5 3 rfl rfl)
theorem dX5_chosen_123 : decode cX5_chosen 123 = .ok (.invokevirtual 141, 3) := dk_182 0 141 (dk_at dksX5_chosen_5 5 rfl rfl)
theorem dX5_chosen_126 : decode cX5_chosen 126 = .ok (.ireturn, 1) := dk_172 (dk_at dksX5_chosen_5 8 rfl rfl)
theorem dX5_chosen_127 : decode cX5_chosen 127 = .ok (.aload_n 0, 1) := dk_42 (dk_at dksX5_chosen_5 9 rfl rfl)
theorem dX5_chosen_128 : decode cX5_chosen 128 = .ok (.aload 4, 2) := dk_25 4 (dk_at dksX5_chosen_5 10 rfl rfl)
theorem dX5_chosen_130 : decode cX5_chosen 130 = .ok (.iload 5, 2) := dk_21 5 (dk_at dksX5_chosen_5 12 rfl rfl)
theorem dX5_chosen_132 : decode cX5_chosen 132 = .ok (.iload 6, 2) := dk_21 6 (dk_at dksX5_chosen_5 14 rfl rfl)
theorem dX5_chosen_134 : decode cX5_chosen 134 = .ok (.invokevirtual 147, 3) := dk_182 0 147 (dk_at dksX5_chosen_5 16 rfl rfl)
theorem dX5_chosen_137 : decode cX5_chosen 137 = .ok (.iconst 0, 1) := dk_3 (dk_at dksX5_chosen_5 19 rfl rfl)
theorem dX5_chosen_138 : decode cX5_chosen 138 = .ok (.istore 8, 2) := dk_54 8 (dk_at dksX5_chosen_5 20 rfl rfl)
theorem dX5_chosen_140 : decode cX5_chosen 140 = .ok (.iconst 0, 1) := dk_3 (dk_at dksX5_chosen_5 22 rfl rfl)
theorem dX5_chosen_141 : decode cX5_chosen 141 = .ok (.istore 9, 2) := dk_54 9 (dk_at dksX5_chosen_6 0 rfl rfl)
theorem dX5_chosen_143 : decode cX5_chosen 143 = .ok (.iload 9, 2) := dk_21 9 (dk_at dksX5_chosen_6 2 rfl rfl)
theorem dX5_chosen_145 : decode cX5_chosen 145 = .ok (.aload_n 0, 1) := dk_42 (dk_at dksX5_chosen_6 4 rfl rfl)
theorem dX5_chosen_146 : decode cX5_chosen 146 = .ok (.getfield 96, 3) := dk_180 0 96 (dk_at dksX5_chosen_6 5 rfl rfl)
theorem dX5_chosen_149 : decode cX5_chosen 149 = .ok (.if_icmp .ge 23, 3) := dk_162 0 23 (dk_at dksX5_chosen_6 8 rfl rfl)
theorem dX5_chosen_152 : decode cX5_chosen 152 = .ok (.iload 8, 2) := dk_21 8 (dk_at dksX5_chosen_6 11 rfl rfl)
theorem dX5_chosen_154 : decode cX5_chosen 154 = .ok (.aload_n 1, 1) := dk_43 (dk_at dksX5_chosen_6 13 rfl rfl)
theorem dX5_chosen_155 : decode cX5_chosen 155 = .ok (.iload 9, 2) := dk_21 9 (dk_at dksX5_chosen_6 14 rfl rfl)
theorem dX5_chosen_157 : decode cX5_chosen 157 = .ok (.iaload, 1) := dk_46 (dk_at dksX5_chosen_6 16 rfl rfl)
theorem dX5_chosen_158 : decode cX5_chosen 158 = .ok (.iconst 3, 1) := dk_6 (dk_at dksX5_chosen_6 17 rfl rfl)
theorem dX5_chosen_159 : decode cX5_chosen 159 = .ok (.iload 9, 2) := dk_21 9 (dk_at dksX5_chosen_6 18 rfl rfl)
theorem dX5_chosen_161 : decode cX5_chosen 161 = .ok (.imul, 1) := dk_104 (dk_at dksX5_chosen_6 20 rfl rfl)
theorem dX5_chosen_162 : decode cX5_chosen 162 = .ok (.ishl, 1) := dk_120 (dk_at dksX5_chosen_6 21 rfl rfl)
theorem dX5_chosen_163 : decode cX5_chosen 163 = .ok (.ior, 1) := dk_128 (dk_at dksX5_chosen_6 22 rfl rfl)
theorem dX5_chosen_164 : decode cX5_chosen 164 = .ok (.istore 8, 2) := dk_54 8 (dk_at dksX5_chosen_7 0 rfl rfl)
theorem dX5_chosen_166 : decode cX5_chosen 166 = .ok (.iinc 9 1, 3) := dk_132 9 1 (dk_at dksX5_chosen_7 2 rfl rfl)
theorem dX5_chosen_169 : decode cX5_chosen 169 = .ok (.goto (-26), 3) := dk_167 255 230 (dk_at dksX5_chosen_7 5 rfl rfl)
theorem dX5_chosen_172 : decode cX5_chosen 172 = .ok (.ldc 89, 2) := dk_18 89 (dk_at dksX5_chosen_7 8 rfl rfl)
theorem dX5_chosen_174 : decode cX5_chosen 174 = .ok (.istore 9, 2) := dk_54 9 (dk_at dksX5_chosen_7 10 rfl rfl)
theorem dX5_chosen_176 : decode cX5_chosen 176 = .ok (.iconst 0, 1) := dk_3 (dk_at dksX5_chosen_7 12 rfl rfl)
theorem dX5_chosen_177 : decode cX5_chosen 177 = .ok (.istore 10, 2) := dk_54 10 (dk_at dksX5_chosen_7 13 rfl rfl)
theorem dX5_chosen_179 : decode cX5_chosen 179 = .ok (.iconst 0, 1) := dk_3 (dk_at dksX5_chosen_7 15 rfl rfl)
theorem dX5_chosen_180 : decode cX5_chosen 180 = .ok (.istore 11, 2) := dk_54 11 (dk_at dksX5_chosen_7 16 rfl rfl)
theorem dX5_chosen_182 : decode cX5_chosen 182 = .ok (.iload 11, 2) := dk_21 11 (dk_at dksX5_chosen_7 18 rfl rfl)
theorem dX5_chosen_184 : decode cX5_chosen 184 = .ok (.aload_n 0, 1) := dk_42 (dk_at dksX5_chosen_7 20 rfl rfl)
theorem dX5_chosen_185 : decode cX5_chosen 185 = .ok (.getfield 96, 3) := dk_180 0 96 (dk_at dksX5_chosen_7 21 rfl rfl)
theorem dX5_chosen_188 : decode cX5_chosen 188 = .ok (.if_icmp .ge 63, 3) := dk_162 0 63 (dk_at dksX5_chosen_8 0 rfl rfl)
theorem dX5_chosen_191 : decode cX5_chosen 191 = .ok (.aload_n 0, 1) := dk_42 (dk_at dksX5_chosen_8 3 rfl rfl)
theorem dX5_chosen_192 : decode cX5_chosen 192 = .ok (.aload 4, 2) := dk_25 4 (dk_at dksX5_chosen_8 4 rfl rfl)
theorem dX5_chosen_194 : decode cX5_chosen 194 = .ok (.iload 5, 2) := dk_21 5 (dk_at dksX5_chosen_8 6 rfl rfl)
theorem dX5_chosen_196 : decode cX5_chosen 196 = .ok (.sipush 512, 3) := dk_17 2 0 (dk_at dksX5_chosen_8 8 rfl rfl)
theorem dX5_chosen_199 : decode cX5_chosen 199 = .ok (.iadd, 1) := dk_96 (dk_at dksX5_chosen_8 11 rfl rfl)
theorem dX5_chosen_200 : decode cX5_chosen 200 = .ok (.iload 8, 2) := dk_21 8 (dk_at dksX5_chosen_8 12 rfl rfl)
theorem dX5_chosen_202 : decode cX5_chosen 202 = .ok (.iload 11, 2) := dk_21 11 (dk_at dksX5_chosen_8 14 rfl rfl)
theorem dX5_chosen_204 : decode cX5_chosen 204 = .ok (.iload 6, 2) := dk_21 6 (dk_at dksX5_chosen_8 16 rfl rfl)
theorem dX5_chosen_206 : decode cX5_chosen 206 = .ok (.invokestatic 113, 3) := dk_184 0 113 (dk_at dksX5_chosen_8 18 rfl rfl)
theorem dX5_chosen_209 : decode cX5_chosen 209 = .ok (.invokevirtual 151, 3) := dk_182 0 151 (dk_at dksX5_chosen_8 21 rfl rfl)
theorem dX5_chosen_212 : decode cX5_chosen 212 = .ok (.aload_n 0, 1) := dk_42 (dk_at dksX5_chosen_9 0 rfl rfl)
theorem dX5_chosen_213 : decode cX5_chosen 213 = .ok (.getfield 19, 3) := dk_180 0 19 (dk_at dksX5_chosen_9 1 rfl rfl)
theorem dX5_chosen_216 : decode cX5_chosen 216 = .ok (.bipush 6, 2) := dk_16 6 (dk_at dksX5_chosen_9 4 rfl rfl)
theorem dX5_chosen_218 : decode cX5_chosen 218 = .ok (.aload_n 1, 1) := dk_43 (dk_at dksX5_chosen_9 6 rfl rfl)
theorem dX5_chosen_219 : decode cX5_chosen 219 = .ok (.iload 11, 2) := dk_21 11 (dk_at dksX5_chosen_9 7 rfl rfl)
theorem dX5_chosen_221 : decode cX5_chosen 221 = .ok (.iaload, 1) := dk_46 (dk_at dksX5_chosen_9 9 rfl rfl)
theorem dX5_chosen_222 : decode cX5_chosen 222 = .ok (.imul, 1) := dk_104 (dk_at dksX5_chosen_9 10 rfl rfl)
theorem dX5_chosen_223 : decode cX5_chosen 223 = .ok (.iload 6, 2) := dk_21 6 (dk_at dksX5_chosen_9 11 rfl rfl)
theorem dX5_chosen_225 : decode cX5_chosen 225 = .ok (.iadd, 1) := dk_96 (dk_at dksX5_chosen_9 13 rfl rfl)
theorem dX5_chosen_226 : decode cX5_chosen 226 = .ok (.iaload, 1) := dk_46 (dk_at dksX5_chosen_9 14 rfl rfl)
theorem dX5_chosen_227 : decode cX5_chosen 227 = .ok (.iadd, 1) := dk_96 (dk_at dksX5_chosen_9 15 rfl rfl)
theorem dX5_chosen_228 : decode cX5_chosen 228 = .ok (.istore 12, 2) := dk_54 12 (dk_at dksX5_chosen_9 16 rfl rfl)
theorem dX5_chosen_230 : decode cX5_chosen 230 = .ok (.iload 12, 2) := dk_21 12 (dk_at dksX5_chosen_9 18 rfl rfl)
theorem dX5_chosen_232 : decode cX5_chosen 232 = .ok (.iload 9, 2) := dk_21 9 (dk_at dksX5_chosen_9 20 rfl rfl)
theorem dX5_chosen_234 : decode cX5_chosen 234 = .ok (.if_icmp .ge 11, 3) := dk_162 0 11 (dk_at dksX5_chosen_10 0 rfl rfl)
theorem dX5_chosen_237 : decode cX5_chosen 237 = .ok (.iload 12, 2) := dk_21 12 (dk_at dksX5_chosen_10 3 rfl rfl)
theorem dX5_chosen_239 : decode cX5_chosen 239 = .ok (.istore 9, 2) := dk_54 9 (dk_at dksX5_chosen_10 5 rfl rfl)
theorem dX5_chosen_241 : decode cX5_chosen 241 = .ok (.iload 11, 2) := dk_21 11 (dk_at dksX5_chosen_10 7 rfl rfl)
theorem dX5_chosen_243 : decode cX5_chosen 243 = .ok (.istore 10, 2) := dk_54 10 (dk_at dksX5_chosen_10 9 rfl rfl)
theorem dX5_chosen_245 : decode cX5_chosen 245 = .ok (.iinc 11 1, 3) := dk_132 11 1 (dk_at dksX5_chosen_10 11 rfl rfl)
theorem dX5_chosen_248 : decode cX5_chosen 248 = .ok (.goto (-66), 3) := dk_167 255 190 (dk_at dksX5_chosen_10 14 rfl rfl)
theorem dX5_chosen_251 : decode cX5_chosen 251 = .ok (.iload 10, 2) := dk_21 10 (dk_at dksX5_chosen_10 17 rfl rfl)
theorem dX5_chosen_253 : decode cX5_chosen 253 = .ok (.ireturn, 1) := dk_172 (dk_at dksX5_chosen_10 19 rfl rfl)
abbrev cX5_isThere : ByteArray := prog_13_method_21_code
def yX5_isThere : MethodName := ⟨RX5, "isThere", "([II)Z"⟩
def dkwX5_isThere_1 : List UInt8 := [167, 0, 4, 3, 128, 62, 132, 4, 1, 167, 255, 228, 29, 172]
abbrev dktX5_isThere_1 : List UInt8 := dkwX5_isThere_1 ++ []
def dkwX5_isThere_0 : List UInt8 := [3, 62, 3, 54, 4, 21, 4, 42, 180, 0, 96, 162, 0, 25, 29, 43, 21, 4, 46, 28, 160, 0, 7, 4]
abbrev dktX5_isThere_0 : List UInt8 := dkwX5_isThere_0 ++ dktX5_isThere_1
theorem dksX5_isThere_0 : cX5_isThere.data.toList.drop 0 = dktX5_isThere_0 := by decide +kernel
theorem dksX5_isThere_1 : cX5_isThere.data.toList.drop 24 = dktX5_isThere_1 := dk_seg dksX5_isThere_0 24 rfl rfl
theorem dX5_isThere_0 : decode cX5_isThere 0 = .ok (.iconst 0, 1) := dk_3 (dk_at dksX5_isThere_0 0 rfl rfl)
theorem dX5_isThere_1 : decode cX5_isThere 1 = .ok (.istore_n 3, 1) := dk_62 (dk_at dksX5_isThere_0 1 rfl rfl)
theorem dX5_isThere_2 : decode cX5_isThere 2 = .ok (.iconst 0, 1) := dk_3 (dk_at dksX5_isThere_0 2 rfl rfl)
theorem dX5_isThere_3 : decode cX5_isThere 3 = .ok (.istore 4, 2) := dk_54 4 (dk_at dksX5_isThere_0 3 rfl rfl)
theorem dX5_isThere_5 : decode cX5_isThere 5 = .ok (.iload 4, 2) := dk_21 4 (dk_at dksX5_isThere_0 5 rfl rfl)
theorem dX5_isThere_7 : decode cX5_isThere 7 = .ok (.aload_n 0, 1) := dk_42 (dk_at dksX5_isThere_0 7 rfl rfl)
theorem dX5_isThere_8 : decode cX5_isThere 8 = .ok (.getfield 96, 3) := dk_180 0 96 (dk_at dksX5_isThere_0 8 rfl rfl)
theorem dX5_isThere_11 : decode cX5_isThere 11 = .ok (.if_icmp .ge 25, 3) := dk_162 0 25 (dk_at dksX5_isThere_0 11 rfl rfl)
theorem dX5_isThere_14 : decode cX5_isThere 14 = .ok (.iload_n 3, 1) := dk_29 (dk_at dksX5_isThere_0 14 rfl rfl)
theorem dX5_isThere_15 : decode cX5_isThere 15 = .ok (.aload_n 1, 1) := dk_43 (dk_at dksX5_isThere_0 15 rfl rfl)
theorem dX5_isThere_16 : decode cX5_isThere 16 = .ok (.iload 4, 2) := dk_21 4 (dk_at dksX5_isThere_0 16 rfl rfl)
theorem dX5_isThere_18 : decode cX5_isThere 18 = .ok (.iaload, 1) := dk_46 (dk_at dksX5_isThere_0 18 rfl rfl)
theorem dX5_isThere_19 : decode cX5_isThere 19 = .ok (.iload_n 2, 1) := dk_28 (dk_at dksX5_isThere_0 19 rfl rfl)
theorem dX5_isThere_20 : decode cX5_isThere 20 = .ok (.if_icmp .ne 7, 3) := dk_160 0 7 (dk_at dksX5_isThere_0 20 rfl rfl)
theorem dX5_isThere_23 : decode cX5_isThere 23 = .ok (.iconst 1, 1) := dk_4 (dk_at dksX5_isThere_0 23 rfl rfl)
theorem dX5_isThere_24 : decode cX5_isThere 24 = .ok (.goto 4, 3) := dk_167 0 4 (dk_at dksX5_isThere_1 0 rfl rfl)
theorem dX5_isThere_27 : decode cX5_isThere 27 = .ok (.iconst 0, 1) := dk_3 (dk_at dksX5_isThere_1 3 rfl rfl)
theorem dX5_isThere_28 : decode cX5_isThere 28 = .ok (.ior, 1) := dk_128 (dk_at dksX5_isThere_1 4 rfl rfl)
theorem dX5_isThere_29 : decode cX5_isThere 29 = .ok (.istore_n 3, 1) := dk_62 (dk_at dksX5_isThere_1 5 rfl rfl)
theorem dX5_isThere_30 : decode cX5_isThere 30 = .ok (.iinc 4 1, 3) := dk_132 4 1 (dk_at dksX5_isThere_1 6 rfl rfl)
theorem dX5_isThere_33 : decode cX5_isThere 33 = .ok (.goto (-28), 3) := dk_167 255 228 (dk_at dksX5_isThere_1 9 rfl rfl)
theorem dX5_isThere_36 : decode cX5_isThere 36 = .ok (.iload_n 3, 1) := dk_29 (dk_at dksX5_isThere_1 12 rfl rfl)
theorem dX5_isThere_37 : decode cX5_isThere 37 = .ok (.ireturn, 1) := dk_172 (dk_at dksX5_isThere_1 13 rfl rfl)
abbrev cX5_nearest : ByteArray := prog_13_method_20_code
def yX5_nearest : MethodName := ⟨RX5, "nearest", "([II)I"⟩
def dkwX5_nearest_2 : List UInt8 := [28, 96, 46, 162, 0, 8, 21, 4, 167, 0, 4, 29, 62, 132, 4, 1, 167, 255, 207, 29, 172]
abbrev dktX5_nearest_2 : List UInt8 := dkwX5_nearest_2 ++ []
def dkwX5_nearest_1 : List UInt8 := [42, 180, 0, 19, 16, 6, 43, 21, 4, 46, 104, 28, 96, 46, 42, 180, 0, 19, 16, 6, 43, 29, 46, 104]
abbrev dktX5_nearest_1 : List UInt8 := dkwX5_nearest_1 ++ dktX5_nearest_2
def dkwX5_nearest_0 : List UInt8 := [42, 89, 180, 0, 124, 10, 97, 181, 0, 124, 3, 62, 4, 54, 4, 21, 4, 42, 180, 0, 96, 162, 0, 46]
abbrev dktX5_nearest_0 : List UInt8 := dkwX5_nearest_0 ++ dktX5_nearest_1
theorem dksX5_nearest_0 : cX5_nearest.data.toList.drop 0 = dktX5_nearest_0 := by decide +kernel
theorem dksX5_nearest_1 : cX5_nearest.data.toList.drop 24 = dktX5_nearest_1 := dk_seg dksX5_nearest_0 24 rfl rfl
theorem dksX5_nearest_2 : cX5_nearest.data.toList.drop 48 = dktX5_nearest_2 := dk_seg dksX5_nearest_1 24 rfl rfl
theorem dX5_nearest_0 : decode cX5_nearest 0 = .ok (.aload_n 0, 1) := dk_42 (dk_at dksX5_nearest_0 0 rfl rfl)
theorem dX5_nearest_1 : decode cX5_nearest 1 = .ok (.dup, 1) := dk_89 (dk_at dksX5_nearest_0 1 rfl rfl)
theorem dX5_nearest_2 : decode cX5_nearest 2 = .ok (.getfield 124, 3) := dk_180 0 124 (dk_at dksX5_nearest_0 2 rfl rfl)
theorem dX5_nearest_5 : decode cX5_nearest 5 = .ok (.lconst 1, 1) := dk_10 (dk_at dksX5_nearest_0 5 rfl rfl)
theorem dX5_nearest_6 : decode cX5_nearest 6 = .ok (.ladd, 1) := dk_97 (dk_at dksX5_nearest_0 6 rfl rfl)
theorem dX5_nearest_7 : decode cX5_nearest 7 = .ok (.putfield 124, 3) := dk_181 0 124 (dk_at dksX5_nearest_0 7 rfl rfl)
theorem dX5_nearest_10 : decode cX5_nearest 10 = .ok (.iconst 0, 1) := dk_3 (dk_at dksX5_nearest_0 10 rfl rfl)
theorem dX5_nearest_11 : decode cX5_nearest 11 = .ok (.istore_n 3, 1) := dk_62 (dk_at dksX5_nearest_0 11 rfl rfl)
theorem dX5_nearest_12 : decode cX5_nearest 12 = .ok (.iconst 1, 1) := dk_4 (dk_at dksX5_nearest_0 12 rfl rfl)
theorem dX5_nearest_13 : decode cX5_nearest 13 = .ok (.istore 4, 2) := dk_54 4 (dk_at dksX5_nearest_0 13 rfl rfl)
theorem dX5_nearest_15 : decode cX5_nearest 15 = .ok (.iload 4, 2) := dk_21 4 (dk_at dksX5_nearest_0 15 rfl rfl)
theorem dX5_nearest_17 : decode cX5_nearest 17 = .ok (.aload_n 0, 1) := dk_42 (dk_at dksX5_nearest_0 17 rfl rfl)
theorem dX5_nearest_18 : decode cX5_nearest 18 = .ok (.getfield 96, 3) := dk_180 0 96 (dk_at dksX5_nearest_0 18 rfl rfl)
theorem dX5_nearest_21 : decode cX5_nearest 21 = .ok (.if_icmp .ge 46, 3) := dk_162 0 46 (dk_at dksX5_nearest_0 21 rfl rfl)
theorem dX5_nearest_24 : decode cX5_nearest 24 = .ok (.aload_n 0, 1) := dk_42 (dk_at dksX5_nearest_1 0 rfl rfl)
theorem dX5_nearest_25 : decode cX5_nearest 25 = .ok (.getfield 19, 3) := dk_180 0 19 (dk_at dksX5_nearest_1 1 rfl rfl)
theorem dX5_nearest_28 : decode cX5_nearest 28 = .ok (.bipush 6, 2) := dk_16 6 (dk_at dksX5_nearest_1 4 rfl rfl)
theorem dX5_nearest_30 : decode cX5_nearest 30 = .ok (.aload_n 1, 1) := dk_43 (dk_at dksX5_nearest_1 6 rfl rfl)
theorem dX5_nearest_31 : decode cX5_nearest 31 = .ok (.iload 4, 2) := dk_21 4 (dk_at dksX5_nearest_1 7 rfl rfl)
theorem dX5_nearest_33 : decode cX5_nearest 33 = .ok (.iaload, 1) := dk_46 (dk_at dksX5_nearest_1 9 rfl rfl)
theorem dX5_nearest_34 : decode cX5_nearest 34 = .ok (.imul, 1) := dk_104 (dk_at dksX5_nearest_1 10 rfl rfl)
theorem dX5_nearest_35 : decode cX5_nearest 35 = .ok (.iload_n 2, 1) := dk_28 (dk_at dksX5_nearest_1 11 rfl rfl)
theorem dX5_nearest_36 : decode cX5_nearest 36 = .ok (.iadd, 1) := dk_96 (dk_at dksX5_nearest_1 12 rfl rfl)
theorem dX5_nearest_37 : decode cX5_nearest 37 = .ok (.iaload, 1) := dk_46 (dk_at dksX5_nearest_1 13 rfl rfl)
theorem dX5_nearest_38 : decode cX5_nearest 38 = .ok (.aload_n 0, 1) := dk_42 (dk_at dksX5_nearest_1 14 rfl rfl)
theorem dX5_nearest_39 : decode cX5_nearest 39 = .ok (.getfield 19, 3) := dk_180 0 19 (dk_at dksX5_nearest_1 15 rfl rfl)
theorem dX5_nearest_42 : decode cX5_nearest 42 = .ok (.bipush 6, 2) := dk_16 6 (dk_at dksX5_nearest_1 18 rfl rfl)
theorem dX5_nearest_44 : decode cX5_nearest 44 = .ok (.aload_n 1, 1) := dk_43 (dk_at dksX5_nearest_1 20 rfl rfl)
theorem dX5_nearest_45 : decode cX5_nearest 45 = .ok (.iload_n 3, 1) := dk_29 (dk_at dksX5_nearest_1 21 rfl rfl)
theorem dX5_nearest_46 : decode cX5_nearest 46 = .ok (.iaload, 1) := dk_46 (dk_at dksX5_nearest_1 22 rfl rfl)
theorem dX5_nearest_47 : decode cX5_nearest 47 = .ok (.imul, 1) := dk_104 (dk_at dksX5_nearest_1 23 rfl rfl)
theorem dX5_nearest_48 : decode cX5_nearest 48 = .ok (.iload_n 2, 1) := dk_28 (dk_at dksX5_nearest_2 0 rfl rfl)
theorem dX5_nearest_49 : decode cX5_nearest 49 = .ok (.iadd, 1) := dk_96 (dk_at dksX5_nearest_2 1 rfl rfl)
theorem dX5_nearest_50 : decode cX5_nearest 50 = .ok (.iaload, 1) := dk_46 (dk_at dksX5_nearest_2 2 rfl rfl)
theorem dX5_nearest_51 : decode cX5_nearest 51 = .ok (.if_icmp .ge 8, 3) := dk_162 0 8 (dk_at dksX5_nearest_2 3 rfl rfl)
theorem dX5_nearest_54 : decode cX5_nearest 54 = .ok (.iload 4, 2) := dk_21 4 (dk_at dksX5_nearest_2 6 rfl rfl)
theorem dX5_nearest_56 : decode cX5_nearest 56 = .ok (.goto 4, 3) := dk_167 0 4 (dk_at dksX5_nearest_2 8 rfl rfl)
theorem dX5_nearest_59 : decode cX5_nearest 59 = .ok (.iload_n 3, 1) := dk_29 (dk_at dksX5_nearest_2 11 rfl rfl)
theorem dX5_nearest_60 : decode cX5_nearest 60 = .ok (.istore_n 3, 1) := dk_62 (dk_at dksX5_nearest_2 12 rfl rfl)
theorem dX5_nearest_61 : decode cX5_nearest 61 = .ok (.iinc 4 1, 3) := dk_132 4 1 (dk_at dksX5_nearest_2 13 rfl rfl)
theorem dX5_nearest_64 : decode cX5_nearest 64 = .ok (.goto (-49), 3) := dk_167 255 207 (dk_at dksX5_nearest_2 16 rfl rfl)
theorem dX5_nearest_67 : decode cX5_nearest 67 = .ok (.iload_n 3, 1) := dk_29 (dk_at dksX5_nearest_2 19 rfl rfl)
theorem dX5_nearest_68 : decode cX5_nearest 68 = .ok (.ireturn, 1) := dk_172 (dk_at dksX5_nearest_2 20 rfl rfl)
abbrev cX5_evenOf : ByteArray := prog_13_method_22_code
def yX5_evenOf : MethodName := ⟨RX5, "evenOf", "([I[II)I"⟩
def dkwX5_evenOf_4 : List UInt8 := [167, 255, 194, 21, 4, 172]
abbrev dktX5_evenOf_4 : List UInt8 := dkwX5_evenOf_4 ++ []
def dkwX5_evenOf_3 : List UInt8 := [43, 21, 4, 46, 104, 29, 96, 46, 96, 162, 0, 8, 21, 5, 167, 0, 5, 21, 4, 54, 4, 132, 5, 1]
abbrev dktX5_evenOf_3 : List UInt8 := dkwX5_evenOf_3 ++ dktX5_evenOf_4
def dkwX5_evenOf_2 : List UInt8 := [180, 0, 19, 16, 6, 43, 21, 5, 46, 104, 29, 96, 46, 96, 44, 21, 4, 46, 42, 180, 0, 19, 16, 6]
abbrev dktX5_evenOf_2 : List UInt8 := dkwX5_evenOf_2 ++ dktX5_evenOf_3
def dkwX5_evenOf_1 : List UInt8 := [182, 0, 134, 172, 3, 54, 4, 4, 54, 5, 21, 5, 42, 180, 0, 96, 162, 0, 59, 44, 21, 5, 46, 42]
abbrev dktX5_evenOf_1 : List UInt8 := dkwX5_evenOf_1 ++ dktX5_evenOf_2
def dkwX5_evenOf_0 : List UInt8 := [42, 89, 180, 0, 124, 20, 0, 128, 97, 181, 0, 124, 42, 43, 29, 182, 0, 130, 153, 0, 10, 42, 43, 29]
abbrev dktX5_evenOf_0 : List UInt8 := dkwX5_evenOf_0 ++ dktX5_evenOf_1
theorem dksX5_evenOf_0 : cX5_evenOf.data.toList.drop 0 = dktX5_evenOf_0 := by decide +kernel
theorem dksX5_evenOf_1 : cX5_evenOf.data.toList.drop 24 = dktX5_evenOf_1 := dk_seg dksX5_evenOf_0 24 rfl rfl
theorem dksX5_evenOf_2 : cX5_evenOf.data.toList.drop 48 = dktX5_evenOf_2 := dk_seg dksX5_evenOf_1 24 rfl rfl
theorem dksX5_evenOf_3 : cX5_evenOf.data.toList.drop 72 = dktX5_evenOf_3 := dk_seg dksX5_evenOf_2 24 rfl rfl
theorem dksX5_evenOf_4 : cX5_evenOf.data.toList.drop 96 = dktX5_evenOf_4 := dk_seg dksX5_evenOf_3 24 rfl rfl
theorem dX5_evenOf_0 : decode cX5_evenOf 0 = .ok (.aload_n 0, 1) := dk_42 (dk_at dksX5_evenOf_0 0 rfl rfl)
theorem dX5_evenOf_1 : decode cX5_evenOf 1 = .ok (.dup, 1) := dk_89 (dk_at dksX5_evenOf_0 1 rfl rfl)
theorem dX5_evenOf_2 : decode cX5_evenOf 2 = .ok (.getfield 124, 3) := dk_180 0 124 (dk_at dksX5_evenOf_0 2 rfl rfl)
theorem dX5_evenOf_5 : decode cX5_evenOf 5 = .ok (.ldc2_w 128, 3) := dk_20 0 128 (dk_at dksX5_evenOf_0 5 rfl rfl)
theorem dX5_evenOf_8 : decode cX5_evenOf 8 = .ok (.ladd, 1) := dk_97 (dk_at dksX5_evenOf_0 8 rfl rfl)
theorem dX5_evenOf_9 : decode cX5_evenOf 9 = .ok (.putfield 124, 3) := dk_181 0 124 (dk_at dksX5_evenOf_0 9 rfl rfl)
theorem dX5_evenOf_12 : decode cX5_evenOf 12 = .ok (.aload_n 0, 1) := dk_42 (dk_at dksX5_evenOf_0 12 rfl rfl)
theorem dX5_evenOf_13 : decode cX5_evenOf 13 = .ok (.aload_n 1, 1) := dk_43 (dk_at dksX5_evenOf_0 13 rfl rfl)
theorem dX5_evenOf_14 : decode cX5_evenOf 14 = .ok (.iload_n 3, 1) := dk_29 (dk_at dksX5_evenOf_0 14 rfl rfl)
theorem dX5_evenOf_15 : decode cX5_evenOf 15 = .ok (.invokevirtual 130, 3) := dk_182 0 130 (dk_at dksX5_evenOf_0 15 rfl rfl)
theorem dX5_evenOf_18 : decode cX5_evenOf 18 = .ok (.ifCond .eq 10, 3) := dk_153 0 10 (dk_at dksX5_evenOf_0 18 rfl rfl)
theorem dX5_evenOf_21 : decode cX5_evenOf 21 = .ok (.aload_n 0, 1) := dk_42 (dk_at dksX5_evenOf_0 21 rfl rfl)
theorem dX5_evenOf_22 : decode cX5_evenOf 22 = .ok (.aload_n 1, 1) := dk_43 (dk_at dksX5_evenOf_0 22 rfl rfl)
theorem dX5_evenOf_23 : decode cX5_evenOf 23 = .ok (.iload_n 3, 1) := dk_29 (dk_at dksX5_evenOf_0 23 rfl rfl)
theorem dX5_evenOf_24 : decode cX5_evenOf 24 = .ok (.invokevirtual 134, 3) := dk_182 0 134 (dk_at dksX5_evenOf_1 0 rfl rfl)
theorem dX5_evenOf_27 : decode cX5_evenOf 27 = .ok (.ireturn, 1) := dk_172 (dk_at dksX5_evenOf_1 3 rfl rfl)
theorem dX5_evenOf_28 : decode cX5_evenOf 28 = .ok (.iconst 0, 1) := dk_3 (dk_at dksX5_evenOf_1 4 rfl rfl)
theorem dX5_evenOf_29 : decode cX5_evenOf 29 = .ok (.istore 4, 2) := dk_54 4 (dk_at dksX5_evenOf_1 5 rfl rfl)
theorem dX5_evenOf_31 : decode cX5_evenOf 31 = .ok (.iconst 1, 1) := dk_4 (dk_at dksX5_evenOf_1 7 rfl rfl)
theorem dX5_evenOf_32 : decode cX5_evenOf 32 = .ok (.istore 5, 2) := dk_54 5 (dk_at dksX5_evenOf_1 8 rfl rfl)
theorem dX5_evenOf_34 : decode cX5_evenOf 34 = .ok (.iload 5, 2) := dk_21 5 (dk_at dksX5_evenOf_1 10 rfl rfl)
theorem dX5_evenOf_36 : decode cX5_evenOf 36 = .ok (.aload_n 0, 1) := dk_42 (dk_at dksX5_evenOf_1 12 rfl rfl)
theorem dX5_evenOf_37 : decode cX5_evenOf 37 = .ok (.getfield 96, 3) := dk_180 0 96 (dk_at dksX5_evenOf_1 13 rfl rfl)
theorem dX5_evenOf_40 : decode cX5_evenOf 40 = .ok (.if_icmp .ge 59, 3) := dk_162 0 59 (dk_at dksX5_evenOf_1 16 rfl rfl)
theorem dX5_evenOf_43 : decode cX5_evenOf 43 = .ok (.aload_n 2, 1) := dk_44 (dk_at dksX5_evenOf_1 19 rfl rfl)
theorem dX5_evenOf_44 : decode cX5_evenOf 44 = .ok (.iload 5, 2) := dk_21 5 (dk_at dksX5_evenOf_1 20 rfl rfl)
theorem dX5_evenOf_46 : decode cX5_evenOf 46 = .ok (.iaload, 1) := dk_46 (dk_at dksX5_evenOf_1 22 rfl rfl)
theorem dX5_evenOf_47 : decode cX5_evenOf 47 = .ok (.aload_n 0, 1) := dk_42 (dk_at dksX5_evenOf_1 23 rfl rfl)
theorem dX5_evenOf_48 : decode cX5_evenOf 48 = .ok (.getfield 19, 3) := dk_180 0 19 (dk_at dksX5_evenOf_2 0 rfl rfl)
theorem dX5_evenOf_51 : decode cX5_evenOf 51 = .ok (.bipush 6, 2) := dk_16 6 (dk_at dksX5_evenOf_2 3 rfl rfl)
theorem dX5_evenOf_53 : decode cX5_evenOf 53 = .ok (.aload_n 1, 1) := dk_43 (dk_at dksX5_evenOf_2 5 rfl rfl)
theorem dX5_evenOf_54 : decode cX5_evenOf 54 = .ok (.iload 5, 2) := dk_21 5 (dk_at dksX5_evenOf_2 6 rfl rfl)
theorem dX5_evenOf_56 : decode cX5_evenOf 56 = .ok (.iaload, 1) := dk_46 (dk_at dksX5_evenOf_2 8 rfl rfl)
theorem dX5_evenOf_57 : decode cX5_evenOf 57 = .ok (.imul, 1) := dk_104 (dk_at dksX5_evenOf_2 9 rfl rfl)
theorem dX5_evenOf_58 : decode cX5_evenOf 58 = .ok (.iload_n 3, 1) := dk_29 (dk_at dksX5_evenOf_2 10 rfl rfl)
theorem dX5_evenOf_59 : decode cX5_evenOf 59 = .ok (.iadd, 1) := dk_96 (dk_at dksX5_evenOf_2 11 rfl rfl)
theorem dX5_evenOf_60 : decode cX5_evenOf 60 = .ok (.iaload, 1) := dk_46 (dk_at dksX5_evenOf_2 12 rfl rfl)
theorem dX5_evenOf_61 : decode cX5_evenOf 61 = .ok (.iadd, 1) := dk_96 (dk_at dksX5_evenOf_2 13 rfl rfl)
theorem dX5_evenOf_62 : decode cX5_evenOf 62 = .ok (.aload_n 2, 1) := dk_44 (dk_at dksX5_evenOf_2 14 rfl rfl)
theorem dX5_evenOf_63 : decode cX5_evenOf 63 = .ok (.iload 4, 2) := dk_21 4 (dk_at dksX5_evenOf_2 15 rfl rfl)
theorem dX5_evenOf_65 : decode cX5_evenOf 65 = .ok (.iaload, 1) := dk_46 (dk_at dksX5_evenOf_2 17 rfl rfl)
theorem dX5_evenOf_66 : decode cX5_evenOf 66 = .ok (.aload_n 0, 1) := dk_42 (dk_at dksX5_evenOf_2 18 rfl rfl)
theorem dX5_evenOf_67 : decode cX5_evenOf 67 = .ok (.getfield 19, 3) := dk_180 0 19 (dk_at dksX5_evenOf_2 19 rfl rfl)
theorem dX5_evenOf_70 : decode cX5_evenOf 70 = .ok (.bipush 6, 2) := dk_16 6 (dk_at dksX5_evenOf_2 22 rfl rfl)
theorem dX5_evenOf_72 : decode cX5_evenOf 72 = .ok (.aload_n 1, 1) := dk_43 (dk_at dksX5_evenOf_3 0 rfl rfl)
theorem dX5_evenOf_73 : decode cX5_evenOf 73 = .ok (.iload 4, 2) := dk_21 4 (dk_at dksX5_evenOf_3 1 rfl rfl)
theorem dX5_evenOf_75 : decode cX5_evenOf 75 = .ok (.iaload, 1) := dk_46 (dk_at dksX5_evenOf_3 3 rfl rfl)
theorem dX5_evenOf_76 : decode cX5_evenOf 76 = .ok (.imul, 1) := dk_104 (dk_at dksX5_evenOf_3 4 rfl rfl)
theorem dX5_evenOf_77 : decode cX5_evenOf 77 = .ok (.iload_n 3, 1) := dk_29 (dk_at dksX5_evenOf_3 5 rfl rfl)
theorem dX5_evenOf_78 : decode cX5_evenOf 78 = .ok (.iadd, 1) := dk_96 (dk_at dksX5_evenOf_3 6 rfl rfl)
theorem dX5_evenOf_79 : decode cX5_evenOf 79 = .ok (.iaload, 1) := dk_46 (dk_at dksX5_evenOf_3 7 rfl rfl)
theorem dX5_evenOf_80 : decode cX5_evenOf 80 = .ok (.iadd, 1) := dk_96 (dk_at dksX5_evenOf_3 8 rfl rfl)
theorem dX5_evenOf_81 : decode cX5_evenOf 81 = .ok (.if_icmp .ge 8, 3) := dk_162 0 8 (dk_at dksX5_evenOf_3 9 rfl rfl)
theorem dX5_evenOf_84 : decode cX5_evenOf 84 = .ok (.iload 5, 2) := dk_21 5 (dk_at dksX5_evenOf_3 12 rfl rfl)
theorem dX5_evenOf_86 : decode cX5_evenOf 86 = .ok (.goto 5, 3) := dk_167 0 5 (dk_at dksX5_evenOf_3 14 rfl rfl)
theorem dX5_evenOf_89 : decode cX5_evenOf 89 = .ok (.iload 4, 2) := dk_21 4 (dk_at dksX5_evenOf_3 17 rfl rfl)
theorem dX5_evenOf_91 : decode cX5_evenOf 91 = .ok (.istore 4, 2) := dk_54 4 (dk_at dksX5_evenOf_3 19 rfl rfl)
theorem dX5_evenOf_93 : decode cX5_evenOf 93 = .ok (.iinc 5 1, 3) := dk_132 5 1 (dk_at dksX5_evenOf_3 21 rfl rfl)
theorem dX5_evenOf_96 : decode cX5_evenOf 96 = .ok (.goto (-62), 3) := dk_167 255 194 (dk_at dksX5_evenOf_4 0 rfl rfl)
theorem dX5_evenOf_99 : decode cX5_evenOf 99 = .ok (.iload 4, 2) := dk_21 4 (dk_at dksX5_evenOf_4 3 rfl rfl)
theorem dX5_evenOf_101 : decode cX5_evenOf 101 = .ok (.ireturn, 1) := dk_172 (dk_at dksX5_evenOf_4 5 rfl rfl)
abbrev cX5_serves : ByteArray := prog_13_method_16_code
def yX5_serves : MethodName := ⟨RX5, "serves", "([III)V"⟩
def dkwX5_serves_6 : List UInt8 := [96, 46, 79, 132, 5, 1, 167, 255, 165, 132, 4, 1, 167, 255, 137, 177]
abbrev dktX5_serves_6 : List UInt8 := dkwX5_serves_6 ++ []
def dkwX5_serves_5 : List UInt8 := [17, 2, 0, 96, 21, 6, 96, 46, 162, 0, 8, 21, 7, 167, 0, 13, 43, 28, 17, 2, 0, 96, 21, 6]
abbrev dktX5_serves_5 : List UInt8 := dkwX5_serves_5 ++ dktX5_serves_6
def dkwX5_serves_4 : List UInt8 := [16, 7, 126, 104, 29, 96, 46, 96, 54, 7, 43, 28, 17, 2, 0, 96, 21, 6, 96, 21, 7, 43, 28]
abbrev dktX5_serves_4 : List UInt8 := dkwX5_serves_4 ++ dktX5_serves_5
def dkwX5_serves_3 : List UInt8 := [184, 0, 113, 54, 6, 43, 28, 21, 4, 96, 46, 42, 180, 0, 19, 16, 6, 21, 4, 6, 21, 5, 104, 122]
abbrev dktX5_serves_3 : List UInt8 := dkwX5_serves_3 ++ dktX5_serves_4
def dkwX5_serves_2 : List UInt8 := [18, 89, 162, 0, 100, 3, 54, 5, 21, 5, 42, 180, 0, 96, 162, 0, 88, 21, 4, 21, 5, 29]
abbrev dktX5_serves_2 : List UInt8 := dkwX5_serves_2 ++ dktX5_serves_3
def dkwX5_serves_1 : List UInt8 := [132, 4, 1, 167, 255, 233, 3, 54, 4, 21, 4, 17, 2, 0, 162, 0, 117, 43, 28, 21, 4, 96, 46]
abbrev dktX5_serves_1 : List UInt8 := dkwX5_serves_1 ++ dktX5_serves_2
def dkwX5_serves_0 : List UInt8 := [3, 54, 4, 21, 4, 17, 2, 0, 162, 0, 21, 43, 28, 17, 2, 0, 96, 21, 4, 96, 18, 89, 79]
abbrev dktX5_serves_0 : List UInt8 := dkwX5_serves_0 ++ dktX5_serves_1
theorem dksX5_serves_0 : cX5_serves.data.toList.drop 0 = dktX5_serves_0 := by decide +kernel
theorem dksX5_serves_1 : cX5_serves.data.toList.drop 23 = dktX5_serves_1 := dk_seg dksX5_serves_0 23 rfl rfl
theorem dksX5_serves_2 : cX5_serves.data.toList.drop 46 = dktX5_serves_2 := dk_seg dksX5_serves_1 23 rfl rfl
theorem dksX5_serves_3 : cX5_serves.data.toList.drop 68 = dktX5_serves_3 := dk_seg dksX5_serves_2 22 rfl rfl
theorem dksX5_serves_4 : cX5_serves.data.toList.drop 92 = dktX5_serves_4 := dk_seg dksX5_serves_3 24 rfl rfl
theorem dksX5_serves_5 : cX5_serves.data.toList.drop 115 = dktX5_serves_5 := dk_seg dksX5_serves_4 23 rfl rfl
theorem dksX5_serves_6 : cX5_serves.data.toList.drop 139 = dktX5_serves_6 := dk_seg dksX5_serves_5 24 rfl rfl
theorem dX5_serves_0 : decode cX5_serves 0 = .ok (.iconst 0, 1) := dk_3 (dk_at dksX5_serves_0 0 rfl rfl)
theorem dX5_serves_1 : decode cX5_serves 1 = .ok (.istore 4, 2) := dk_54 4 (dk_at dksX5_serves_0 1 rfl rfl)
theorem dX5_serves_3 : decode cX5_serves 3 = .ok (.iload 4, 2) := dk_21 4 (dk_at dksX5_serves_0 3 rfl rfl)
theorem dX5_serves_5 : decode cX5_serves 5 = .ok (.sipush 512, 3) := dk_17 2 0 (dk_at dksX5_serves_0 5 rfl rfl)
theorem dX5_serves_8 : decode cX5_serves 8 = .ok (.if_icmp .ge 21, 3) := dk_162 0 21 (dk_at dksX5_serves_0 8 rfl rfl)
theorem dX5_serves_11 : decode cX5_serves 11 = .ok (.aload_n 1, 1) := dk_43 (dk_at dksX5_serves_0 11 rfl rfl)
theorem dX5_serves_12 : decode cX5_serves 12 = .ok (.iload_n 2, 1) := dk_28 (dk_at dksX5_serves_0 12 rfl rfl)
theorem dX5_serves_13 : decode cX5_serves 13 = .ok (.sipush 512, 3) := dk_17 2 0 (dk_at dksX5_serves_0 13 rfl rfl)
theorem dX5_serves_16 : decode cX5_serves 16 = .ok (.iadd, 1) := dk_96 (dk_at dksX5_serves_0 16 rfl rfl)
theorem dX5_serves_17 : decode cX5_serves 17 = .ok (.iload 4, 2) := dk_21 4 (dk_at dksX5_serves_0 17 rfl rfl)
theorem dX5_serves_19 : decode cX5_serves 19 = .ok (.iadd, 1) := dk_96 (dk_at dksX5_serves_0 19 rfl rfl)
theorem dX5_serves_20 : decode cX5_serves 20 = .ok (.ldc 89, 2) := dk_18 89 (dk_at dksX5_serves_0 20 rfl rfl)
theorem dX5_serves_22 : decode cX5_serves 22 = .ok (.iastore, 1) := dk_79 (dk_at dksX5_serves_0 22 rfl rfl)
theorem dX5_serves_23 : decode cX5_serves 23 = .ok (.iinc 4 1, 3) := dk_132 4 1 (dk_at dksX5_serves_1 0 rfl rfl)
theorem dX5_serves_26 : decode cX5_serves 26 = .ok (.goto (-23), 3) := dk_167 255 233 (dk_at dksX5_serves_1 3 rfl rfl)
theorem dX5_serves_29 : decode cX5_serves 29 = .ok (.iconst 0, 1) := dk_3 (dk_at dksX5_serves_1 6 rfl rfl)
theorem dX5_serves_30 : decode cX5_serves 30 = .ok (.istore 4, 2) := dk_54 4 (dk_at dksX5_serves_1 7 rfl rfl)
theorem dX5_serves_32 : decode cX5_serves 32 = .ok (.iload 4, 2) := dk_21 4 (dk_at dksX5_serves_1 9 rfl rfl)
theorem dX5_serves_34 : decode cX5_serves 34 = .ok (.sipush 512, 3) := dk_17 2 0 (dk_at dksX5_serves_1 11 rfl rfl)
theorem dX5_serves_37 : decode cX5_serves 37 = .ok (.if_icmp .ge 117, 3) := dk_162 0 117 (dk_at dksX5_serves_1 14 rfl rfl)
theorem dX5_serves_40 : decode cX5_serves 40 = .ok (.aload_n 1, 1) := dk_43 (dk_at dksX5_serves_1 17 rfl rfl)
theorem dX5_serves_41 : decode cX5_serves 41 = .ok (.iload_n 2, 1) := dk_28 (dk_at dksX5_serves_1 18 rfl rfl)
theorem dX5_serves_42 : decode cX5_serves 42 = .ok (.iload 4, 2) := dk_21 4 (dk_at dksX5_serves_1 19 rfl rfl)
theorem dX5_serves_44 : decode cX5_serves 44 = .ok (.iadd, 1) := dk_96 (dk_at dksX5_serves_1 21 rfl rfl)
theorem dX5_serves_45 : decode cX5_serves 45 = .ok (.iaload, 1) := dk_46 (dk_at dksX5_serves_1 22 rfl rfl)
theorem dX5_serves_46 : decode cX5_serves 46 = .ok (.ldc 89, 2) := dk_18 89 (dk_at dksX5_serves_2 0 rfl rfl)
theorem dX5_serves_48 : decode cX5_serves 48 = .ok (.if_icmp .ge 100, 3) := dk_162 0 100 (dk_at dksX5_serves_2 2 rfl rfl)
theorem dX5_serves_51 : decode cX5_serves 51 = .ok (.iconst 0, 1) := dk_3 (dk_at dksX5_serves_2 5 rfl rfl)
theorem dX5_serves_52 : decode cX5_serves 52 = .ok (.istore 5, 2) := dk_54 5 (dk_at dksX5_serves_2 6 rfl rfl)
theorem dX5_serves_54 : decode cX5_serves 54 = .ok (.iload 5, 2) := dk_21 5 (dk_at dksX5_serves_2 8 rfl rfl)
theorem dX5_serves_56 : decode cX5_serves 56 = .ok (.aload_n 0, 1) := dk_42 (dk_at dksX5_serves_2 10 rfl rfl)
theorem dX5_serves_57 : decode cX5_serves 57 = .ok (.getfield 96, 3) := dk_180 0 96 (dk_at dksX5_serves_2 11 rfl rfl)
theorem dX5_serves_60 : decode cX5_serves 60 = .ok (.if_icmp .ge 88, 3) := dk_162 0 88 (dk_at dksX5_serves_2 14 rfl rfl)
theorem dX5_serves_63 : decode cX5_serves 63 = .ok (.iload 4, 2) := dk_21 4 (dk_at dksX5_serves_2 17 rfl rfl)
theorem dX5_serves_65 : decode cX5_serves 65 = .ok (.iload 5, 2) := dk_21 5 (dk_at dksX5_serves_2 19 rfl rfl)
theorem dX5_serves_67 : decode cX5_serves 67 = .ok (.iload_n 3, 1) := dk_29 (dk_at dksX5_serves_2 21 rfl rfl)
theorem dX5_serves_68 : decode cX5_serves 68 = .ok (.invokestatic 113, 3) := dk_184 0 113 (dk_at dksX5_serves_3 0 rfl rfl)
theorem dX5_serves_71 : decode cX5_serves 71 = .ok (.istore 6, 2) := dk_54 6 (dk_at dksX5_serves_3 3 rfl rfl)
theorem dX5_serves_73 : decode cX5_serves 73 = .ok (.aload_n 1, 1) := dk_43 (dk_at dksX5_serves_3 5 rfl rfl)
theorem dX5_serves_74 : decode cX5_serves 74 = .ok (.iload_n 2, 1) := dk_28 (dk_at dksX5_serves_3 6 rfl rfl)
theorem dX5_serves_75 : decode cX5_serves 75 = .ok (.iload 4, 2) := dk_21 4 (dk_at dksX5_serves_3 7 rfl rfl)
theorem dX5_serves_77 : decode cX5_serves 77 = .ok (.iadd, 1) := dk_96 (dk_at dksX5_serves_3 9 rfl rfl)
theorem dX5_serves_78 : decode cX5_serves 78 = .ok (.iaload, 1) := dk_46 (dk_at dksX5_serves_3 10 rfl rfl)
theorem dX5_serves_79 : decode cX5_serves 79 = .ok (.aload_n 0, 1) := dk_42 (dk_at dksX5_serves_3 11 rfl rfl)
theorem dX5_serves_80 : decode cX5_serves 80 = .ok (.getfield 19, 3) := dk_180 0 19 (dk_at dksX5_serves_3 12 rfl rfl)
theorem dX5_serves_83 : decode cX5_serves 83 = .ok (.bipush 6, 2) := dk_16 6 (dk_at dksX5_serves_3 15 rfl rfl)
theorem dX5_serves_85 : decode cX5_serves 85 = .ok (.iload 4, 2) := dk_21 4 (dk_at dksX5_serves_3 17 rfl rfl)
theorem dX5_serves_87 : decode cX5_serves 87 = .ok (.iconst 3, 1) := dk_6 (dk_at dksX5_serves_3 19 rfl rfl)
theorem dX5_serves_88 : decode cX5_serves 88 = .ok (.iload 5, 2) := dk_21 5 (dk_at dksX5_serves_3 20 rfl rfl)
theorem dX5_serves_90 : decode cX5_serves 90 = .ok (.imul, 1) := dk_104 (dk_at dksX5_serves_3 22 rfl rfl)
theorem dX5_serves_91 : decode cX5_serves 91 = .ok (.ishr, 1) := dk_122 (dk_at dksX5_serves_3 23 rfl rfl)
theorem dX5_serves_92 : decode cX5_serves 92 = .ok (.bipush 7, 2) := dk_16 7 (dk_at dksX5_serves_4 0 rfl rfl)
theorem dX5_serves_94 : decode cX5_serves 94 = .ok (.iand, 1) := dk_126 (dk_at dksX5_serves_4 2 rfl rfl)
theorem dX5_serves_95 : decode cX5_serves 95 = .ok (.imul, 1) := dk_104 (dk_at dksX5_serves_4 3 rfl rfl)
theorem dX5_serves_96 : decode cX5_serves 96 = .ok (.iload_n 3, 1) := dk_29 (dk_at dksX5_serves_4 4 rfl rfl)
theorem dX5_serves_97 : decode cX5_serves 97 = .ok (.iadd, 1) := dk_96 (dk_at dksX5_serves_4 5 rfl rfl)
theorem dX5_serves_98 : decode cX5_serves 98 = .ok (.iaload, 1) := dk_46 (dk_at dksX5_serves_4 6 rfl rfl)
theorem dX5_serves_99 : decode cX5_serves 99 = .ok (.iadd, 1) := dk_96 (dk_at dksX5_serves_4 7 rfl rfl)
theorem dX5_serves_100 : decode cX5_serves 100 = .ok (.istore 7, 2) := dk_54 7 (dk_at dksX5_serves_4 8 rfl rfl)
theorem dX5_serves_102 : decode cX5_serves 102 = .ok (.aload_n 1, 1) := dk_43 (dk_at dksX5_serves_4 10 rfl rfl)
theorem dX5_serves_103 : decode cX5_serves 103 = .ok (.iload_n 2, 1) := dk_28 (dk_at dksX5_serves_4 11 rfl rfl)
theorem dX5_serves_104 : decode cX5_serves 104 = .ok (.sipush 512, 3) := dk_17 2 0 (dk_at dksX5_serves_4 12 rfl rfl)
theorem dX5_serves_107 : decode cX5_serves 107 = .ok (.iadd, 1) := dk_96 (dk_at dksX5_serves_4 15 rfl rfl)
theorem dX5_serves_108 : decode cX5_serves 108 = .ok (.iload 6, 2) := dk_21 6 (dk_at dksX5_serves_4 16 rfl rfl)
theorem dX5_serves_110 : decode cX5_serves 110 = .ok (.iadd, 1) := dk_96 (dk_at dksX5_serves_4 18 rfl rfl)
theorem dX5_serves_111 : decode cX5_serves 111 = .ok (.iload 7, 2) := dk_21 7 (dk_at dksX5_serves_4 19 rfl rfl)
theorem dX5_serves_113 : decode cX5_serves 113 = .ok (.aload_n 1, 1) := dk_43 (dk_at dksX5_serves_4 21 rfl rfl)
theorem dX5_serves_114 : decode cX5_serves 114 = .ok (.iload_n 2, 1) := dk_28 (dk_at dksX5_serves_4 22 rfl rfl)
theorem dX5_serves_115 : decode cX5_serves 115 = .ok (.sipush 512, 3) := dk_17 2 0 (dk_at dksX5_serves_5 0 rfl rfl)
theorem dX5_serves_118 : decode cX5_serves 118 = .ok (.iadd, 1) := dk_96 (dk_at dksX5_serves_5 3 rfl rfl)
theorem dX5_serves_119 : decode cX5_serves 119 = .ok (.iload 6, 2) := dk_21 6 (dk_at dksX5_serves_5 4 rfl rfl)
theorem dX5_serves_121 : decode cX5_serves 121 = .ok (.iadd, 1) := dk_96 (dk_at dksX5_serves_5 6 rfl rfl)
theorem dX5_serves_122 : decode cX5_serves 122 = .ok (.iaload, 1) := dk_46 (dk_at dksX5_serves_5 7 rfl rfl)
theorem dX5_serves_123 : decode cX5_serves 123 = .ok (.if_icmp .ge 8, 3) := dk_162 0 8 (dk_at dksX5_serves_5 8 rfl rfl)
theorem dX5_serves_126 : decode cX5_serves 126 = .ok (.iload 7, 2) := dk_21 7 (dk_at dksX5_serves_5 11 rfl rfl)
theorem dX5_serves_128 : decode cX5_serves 128 = .ok (.goto 13, 3) := dk_167 0 13 (dk_at dksX5_serves_5 13 rfl rfl)
theorem dX5_serves_131 : decode cX5_serves 131 = .ok (.aload_n 1, 1) := dk_43 (dk_at dksX5_serves_5 16 rfl rfl)
theorem dX5_serves_132 : decode cX5_serves 132 = .ok (.iload_n 2, 1) := dk_28 (dk_at dksX5_serves_5 17 rfl rfl)
theorem dX5_serves_133 : decode cX5_serves 133 = .ok (.sipush 512, 3) := dk_17 2 0 (dk_at dksX5_serves_5 18 rfl rfl)
theorem dX5_serves_136 : decode cX5_serves 136 = .ok (.iadd, 1) := dk_96 (dk_at dksX5_serves_5 21 rfl rfl)
theorem dX5_serves_137 : decode cX5_serves 137 = .ok (.iload 6, 2) := dk_21 6 (dk_at dksX5_serves_5 22 rfl rfl)
theorem dX5_serves_139 : decode cX5_serves 139 = .ok (.iadd, 1) := dk_96 (dk_at dksX5_serves_6 0 rfl rfl)
theorem dX5_serves_140 : decode cX5_serves 140 = .ok (.iaload, 1) := dk_46 (dk_at dksX5_serves_6 1 rfl rfl)
theorem dX5_serves_141 : decode cX5_serves 141 = .ok (.iastore, 1) := dk_79 (dk_at dksX5_serves_6 2 rfl rfl)
theorem dX5_serves_142 : decode cX5_serves 142 = .ok (.iinc 5 1, 3) := dk_132 5 1 (dk_at dksX5_serves_6 3 rfl rfl)
theorem dX5_serves_145 : decode cX5_serves 145 = .ok (.goto (-91), 3) := dk_167 255 165 (dk_at dksX5_serves_6 6 rfl rfl)
theorem dX5_serves_148 : decode cX5_serves 148 = .ok (.iinc 4 1, 3) := dk_132 4 1 (dk_at dksX5_serves_6 9 rfl rfl)
theorem dX5_serves_151 : decode cX5_serves 151 = .ok (.goto (-119), 3) := dk_167 255 137 (dk_at dksX5_serves_6 12 rfl rfl)
theorem dX5_serves_154 : decode cX5_serves 154 = .ok (.return_, 1) := dk_177 (dk_at dksX5_serves_6 15 rfl rfl)
abbrev cX5_moved : ByteArray := prog_13_method_15_code
def yX5_moved : MethodName := ⟨RX5, "moved", "(III)I"⟩
def dkwX5_moved_0 : List UInt8 := [26, 16, 7, 6, 27, 104, 120, 2, 130, 126, 28, 6, 27, 104, 120, 128, 172]
abbrev dktX5_moved_0 : List UInt8 := dkwX5_moved_0 ++ []
theorem dksX5_moved_0 : cX5_moved.data.toList.drop 0 = dktX5_moved_0 := by decide +kernel
theorem dX5_moved_0 : decode cX5_moved 0 = .ok (.iload_n 0, 1) := dk_26 (dk_at dksX5_moved_0 0 rfl rfl)
theorem dX5_moved_1 : decode cX5_moved 1 = .ok (.bipush 7, 2) := dk_16 7 (dk_at dksX5_moved_0 1 rfl rfl)
theorem dX5_moved_3 : decode cX5_moved 3 = .ok (.iconst 3, 1) := dk_6 (dk_at dksX5_moved_0 3 rfl rfl)
theorem dX5_moved_4 : decode cX5_moved 4 = .ok (.iload_n 1, 1) := dk_27 (dk_at dksX5_moved_0 4 rfl rfl)
theorem dX5_moved_5 : decode cX5_moved 5 = .ok (.imul, 1) := dk_104 (dk_at dksX5_moved_0 5 rfl rfl)
theorem dX5_moved_6 : decode cX5_moved 6 = .ok (.ishl, 1) := dk_120 (dk_at dksX5_moved_0 6 rfl rfl)
theorem dX5_moved_7 : decode cX5_moved 7 = .ok (.iconst (-1), 1) := dk_2 (dk_at dksX5_moved_0 7 rfl rfl)
theorem dX5_moved_8 : decode cX5_moved 8 = .ok (.ixor, 1) := dk_130 (dk_at dksX5_moved_0 8 rfl rfl)
theorem dX5_moved_9 : decode cX5_moved 9 = .ok (.iand, 1) := dk_126 (dk_at dksX5_moved_0 9 rfl rfl)
theorem dX5_moved_10 : decode cX5_moved 10 = .ok (.iload_n 2, 1) := dk_28 (dk_at dksX5_moved_0 10 rfl rfl)
theorem dX5_moved_11 : decode cX5_moved 11 = .ok (.iconst 3, 1) := dk_6 (dk_at dksX5_moved_0 11 rfl rfl)
theorem dX5_moved_12 : decode cX5_moved 12 = .ok (.iload_n 1, 1) := dk_27 (dk_at dksX5_moved_0 12 rfl rfl)
theorem dX5_moved_13 : decode cX5_moved 13 = .ok (.imul, 1) := dk_104 (dk_at dksX5_moved_0 13 rfl rfl)
theorem dX5_moved_14 : decode cX5_moved 14 = .ok (.ishl, 1) := dk_120 (dk_at dksX5_moved_0 14 rfl rfl)
theorem dX5_moved_15 : decode cX5_moved 15 = .ok (.ior, 1) := dk_128 (dk_at dksX5_moved_0 15 rfl rfl)
theorem dX5_moved_16 : decode cX5_moved 16 = .ok (.ireturn, 1) := dk_172 (dk_at dksX5_moved_0 16 rfl rfl)
abbrev cX5_workOf : ByteArray := prog_13_method_19_code
def yX5_workOf : MethodName := ⟨RX5, "workOf", "([III)I"⟩
def dkwX5_workOf_2 : List UInt8 := [162, 0, 8, 21, 6, 167, 0, 5, 21, 4, 54, 4, 132, 5, 1, 167, 255, 202, 21, 4, 172]
abbrev dktX5_workOf_2 : List UInt8 := dkwX5_workOf_2 ++ []
def dkwX5_workOf_1 : List UInt8 := [162, 0, 35, 43, 28, 21, 5, 96, 46, 42, 21, 5, 29, 182, 0, 120, 96, 54, 6, 21, 6, 21, 4]
abbrev dktX5_workOf_1 : List UInt8 := dkwX5_workOf_1 ++ dktX5_workOf_2
def dkwX5_workOf_0 : List UInt8 := [18, 89, 54, 4, 3, 54, 5, 21, 5, 17, 2, 0, 162, 0, 52, 43, 28, 21, 5, 96, 46, 21, 4]
abbrev dktX5_workOf_0 : List UInt8 := dkwX5_workOf_0 ++ dktX5_workOf_1
theorem dksX5_workOf_0 : cX5_workOf.data.toList.drop 0 = dktX5_workOf_0 := by decide +kernel
theorem dksX5_workOf_1 : cX5_workOf.data.toList.drop 23 = dktX5_workOf_1 := dk_seg dksX5_workOf_0 23 rfl rfl
theorem dksX5_workOf_2 : cX5_workOf.data.toList.drop 46 = dktX5_workOf_2 := dk_seg dksX5_workOf_1 23 rfl rfl
theorem dX5_workOf_0 : decode cX5_workOf 0 = .ok (.ldc 89, 2) := dk_18 89 (dk_at dksX5_workOf_0 0 rfl rfl)
theorem dX5_workOf_2 : decode cX5_workOf 2 = .ok (.istore 4, 2) := dk_54 4 (dk_at dksX5_workOf_0 2 rfl rfl)
theorem dX5_workOf_4 : decode cX5_workOf 4 = .ok (.iconst 0, 1) := dk_3 (dk_at dksX5_workOf_0 4 rfl rfl)
theorem dX5_workOf_5 : decode cX5_workOf 5 = .ok (.istore 5, 2) := dk_54 5 (dk_at dksX5_workOf_0 5 rfl rfl)
theorem dX5_workOf_7 : decode cX5_workOf 7 = .ok (.iload 5, 2) := dk_21 5 (dk_at dksX5_workOf_0 7 rfl rfl)
theorem dX5_workOf_9 : decode cX5_workOf 9 = .ok (.sipush 512, 3) := dk_17 2 0 (dk_at dksX5_workOf_0 9 rfl rfl)
theorem dX5_workOf_12 : decode cX5_workOf 12 = .ok (.if_icmp .ge 52, 3) := dk_162 0 52 (dk_at dksX5_workOf_0 12 rfl rfl)
theorem dX5_workOf_15 : decode cX5_workOf 15 = .ok (.aload_n 1, 1) := dk_43 (dk_at dksX5_workOf_0 15 rfl rfl)
theorem dX5_workOf_16 : decode cX5_workOf 16 = .ok (.iload_n 2, 1) := dk_28 (dk_at dksX5_workOf_0 16 rfl rfl)
theorem dX5_workOf_17 : decode cX5_workOf 17 = .ok (.iload 5, 2) := dk_21 5 (dk_at dksX5_workOf_0 17 rfl rfl)
theorem dX5_workOf_19 : decode cX5_workOf 19 = .ok (.iadd, 1) := dk_96 (dk_at dksX5_workOf_0 19 rfl rfl)
theorem dX5_workOf_20 : decode cX5_workOf 20 = .ok (.iaload, 1) := dk_46 (dk_at dksX5_workOf_0 20 rfl rfl)
theorem dX5_workOf_21 : decode cX5_workOf 21 = .ok (.iload 4, 2) := dk_21 4 (dk_at dksX5_workOf_0 21 rfl rfl)
theorem dX5_workOf_23 : decode cX5_workOf 23 = .ok (.if_icmp .ge 35, 3) := dk_162 0 35 (dk_at dksX5_workOf_1 0 rfl rfl)
theorem dX5_workOf_26 : decode cX5_workOf 26 = .ok (.aload_n 1, 1) := dk_43 (dk_at dksX5_workOf_1 3 rfl rfl)
theorem dX5_workOf_27 : decode cX5_workOf 27 = .ok (.iload_n 2, 1) := dk_28 (dk_at dksX5_workOf_1 4 rfl rfl)
theorem dX5_workOf_28 : decode cX5_workOf 28 = .ok (.iload 5, 2) := dk_21 5 (dk_at dksX5_workOf_1 5 rfl rfl)
theorem dX5_workOf_30 : decode cX5_workOf 30 = .ok (.iadd, 1) := dk_96 (dk_at dksX5_workOf_1 7 rfl rfl)
theorem dX5_workOf_31 : decode cX5_workOf 31 = .ok (.iaload, 1) := dk_46 (dk_at dksX5_workOf_1 8 rfl rfl)
theorem dX5_workOf_32 : decode cX5_workOf 32 = .ok (.aload_n 0, 1) := dk_42 (dk_at dksX5_workOf_1 9 rfl rfl)
theorem dX5_workOf_33 : decode cX5_workOf 33 = .ok (.iload 5, 2) := dk_21 5 (dk_at dksX5_workOf_1 10 rfl rfl)
theorem dX5_workOf_35 : decode cX5_workOf 35 = .ok (.iload_n 3, 1) := dk_29 (dk_at dksX5_workOf_1 12 rfl rfl)
theorem dX5_workOf_36 : decode cX5_workOf 36 = .ok (.invokevirtual 120, 3) := dk_182 0 120 (dk_at dksX5_workOf_1 13 rfl rfl)
theorem dX5_workOf_39 : decode cX5_workOf 39 = .ok (.iadd, 1) := dk_96 (dk_at dksX5_workOf_1 16 rfl rfl)
theorem dX5_workOf_40 : decode cX5_workOf 40 = .ok (.istore 6, 2) := dk_54 6 (dk_at dksX5_workOf_1 17 rfl rfl)
theorem dX5_workOf_42 : decode cX5_workOf 42 = .ok (.iload 6, 2) := dk_21 6 (dk_at dksX5_workOf_1 19 rfl rfl)
theorem dX5_workOf_44 : decode cX5_workOf 44 = .ok (.iload 4, 2) := dk_21 4 (dk_at dksX5_workOf_1 21 rfl rfl)
theorem dX5_workOf_46 : decode cX5_workOf 46 = .ok (.if_icmp .ge 8, 3) := dk_162 0 8 (dk_at dksX5_workOf_2 0 rfl rfl)
theorem dX5_workOf_49 : decode cX5_workOf 49 = .ok (.iload 6, 2) := dk_21 6 (dk_at dksX5_workOf_2 3 rfl rfl)
theorem dX5_workOf_51 : decode cX5_workOf 51 = .ok (.goto 5, 3) := dk_167 0 5 (dk_at dksX5_workOf_2 5 rfl rfl)
theorem dX5_workOf_54 : decode cX5_workOf 54 = .ok (.iload 4, 2) := dk_21 4 (dk_at dksX5_workOf_2 8 rfl rfl)
theorem dX5_workOf_56 : decode cX5_workOf 56 = .ok (.istore 4, 2) := dk_54 4 (dk_at dksX5_workOf_2 10 rfl rfl)
theorem dX5_workOf_58 : decode cX5_workOf 58 = .ok (.iinc 5 1, 3) := dk_132 5 1 (dk_at dksX5_workOf_2 12 rfl rfl)
theorem dX5_workOf_61 : decode cX5_workOf 61 = .ok (.goto (-54), 3) := dk_167 255 202 (dk_at dksX5_workOf_2 15 rfl rfl)
theorem dX5_workOf_64 : decode cX5_workOf 64 = .ok (.iload 4, 2) := dk_21 4 (dk_at dksX5_workOf_2 18 rfl rfl)
theorem dX5_workOf_66 : decode cX5_workOf 66 = .ok (.ireturn, 1) := dk_172 (dk_at dksX5_workOf_2 20 rfl rfl)
abbrev cX5_movesOf : ByteArray := prog_13_method_14_code
def yX5_movesOf : MethodName := ⟨RX5, "movesOf", "(II)I"⟩
def dkwX5_movesOf_5 : List UInt8 := [167, 255, 176, 132, 4, 1, 167, 255, 158, 29, 172]
abbrev dktX5_movesOf_5 : List UInt8 := dkwX5_movesOf_5 ++ []
def dkwX5_movesOf_4 : List UInt8 := [167, 0, 4, 3, 96, 54, 6, 21, 6, 29, 162, 0, 8, 21, 6, 167, 0, 4, 29, 62, 132, 5, 1]
abbrev dktX5_movesOf_4 : List UInt8 := dkwX5_movesOf_4 ++ dktX5_movesOf_5
def dkwX5_movesOf_3 : List UInt8 := [42, 180, 0, 96, 6, 160, 0, 20, 42, 27, 5, 28, 6, 21, 4, 100, 21, 5, 100, 182, 0, 109]
abbrev dktX5_movesOf_3 : List UInt8 := dkwX5_movesOf_3 ++ dktX5_movesOf_4
def dkwX5_movesOf_2 : List UInt8 := [21, 5, 159, 0, 64, 42, 27, 3, 28, 21, 4, 182, 0, 109, 42, 27, 4, 28, 21, 5, 182, 0, 109, 96]
abbrev dktX5_movesOf_2 : List UInt8 := dkwX5_movesOf_2 ++ dktX5_movesOf_3
def dkwX5_movesOf_1 : List UInt8 := [21, 4, 42, 180, 0, 96, 162, 0, 95, 3, 54, 5, 21, 5, 42, 180, 0, 96, 162, 0, 77, 21, 4]
abbrev dktX5_movesOf_1 : List UInt8 := dkwX5_movesOf_1 ++ dktX5_movesOf_2
def dkwX5_movesOf_0 : List UInt8 := [42, 180, 0, 96, 4, 160, 0, 12, 42, 27, 3, 28, 3, 182, 0, 109, 172, 18, 89, 62, 3, 54, 4]
abbrev dktX5_movesOf_0 : List UInt8 := dkwX5_movesOf_0 ++ dktX5_movesOf_1
theorem dksX5_movesOf_0 : cX5_movesOf.data.toList.drop 0 = dktX5_movesOf_0 := by decide +kernel
theorem dksX5_movesOf_1 : cX5_movesOf.data.toList.drop 23 = dktX5_movesOf_1 := dk_seg dksX5_movesOf_0 23 rfl rfl
theorem dksX5_movesOf_2 : cX5_movesOf.data.toList.drop 46 = dktX5_movesOf_2 := dk_seg dksX5_movesOf_1 23 rfl rfl
theorem dksX5_movesOf_3 : cX5_movesOf.data.toList.drop 70 = dktX5_movesOf_3 := dk_seg dksX5_movesOf_2 24 rfl rfl
theorem dksX5_movesOf_4 : cX5_movesOf.data.toList.drop 92 = dktX5_movesOf_4 := dk_seg dksX5_movesOf_3 22 rfl rfl
theorem dksX5_movesOf_5 : cX5_movesOf.data.toList.drop 115 = dktX5_movesOf_5 := dk_seg dksX5_movesOf_4 23 rfl rfl
theorem dX5_movesOf_0 : decode cX5_movesOf 0 = .ok (.aload_n 0, 1) := dk_42 (dk_at dksX5_movesOf_0 0 rfl rfl)
theorem dX5_movesOf_1 : decode cX5_movesOf 1 = .ok (.getfield 96, 3) := dk_180 0 96 (dk_at dksX5_movesOf_0 1 rfl rfl)
theorem dX5_movesOf_4 : decode cX5_movesOf 4 = .ok (.iconst 1, 1) := dk_4 (dk_at dksX5_movesOf_0 4 rfl rfl)
theorem dX5_movesOf_5 : decode cX5_movesOf 5 = .ok (.if_icmp .ne 12, 3) := dk_160 0 12 (dk_at dksX5_movesOf_0 5 rfl rfl)
theorem dX5_movesOf_8 : decode cX5_movesOf 8 = .ok (.aload_n 0, 1) := dk_42 (dk_at dksX5_movesOf_0 8 rfl rfl)
theorem dX5_movesOf_9 : decode cX5_movesOf 9 = .ok (.iload_n 1, 1) := dk_27 (dk_at dksX5_movesOf_0 9 rfl rfl)
theorem dX5_movesOf_10 : decode cX5_movesOf 10 = .ok (.iconst 0, 1) := dk_3 (dk_at dksX5_movesOf_0 10 rfl rfl)
theorem dX5_movesOf_11 : decode cX5_movesOf 11 = .ok (.iload_n 2, 1) := dk_28 (dk_at dksX5_movesOf_0 11 rfl rfl)
theorem dX5_movesOf_12 : decode cX5_movesOf 12 = .ok (.iconst 0, 1) := dk_3 (dk_at dksX5_movesOf_0 12 rfl rfl)
theorem dX5_movesOf_13 : decode cX5_movesOf 13 = .ok (.invokevirtual 109, 3) := dk_182 0 109 (dk_at dksX5_movesOf_0 13 rfl rfl)
theorem dX5_movesOf_16 : decode cX5_movesOf 16 = .ok (.ireturn, 1) := dk_172 (dk_at dksX5_movesOf_0 16 rfl rfl)
theorem dX5_movesOf_17 : decode cX5_movesOf 17 = .ok (.ldc 89, 2) := dk_18 89 (dk_at dksX5_movesOf_0 17 rfl rfl)
theorem dX5_movesOf_19 : decode cX5_movesOf 19 = .ok (.istore_n 3, 1) := dk_62 (dk_at dksX5_movesOf_0 19 rfl rfl)
theorem dX5_movesOf_20 : decode cX5_movesOf 20 = .ok (.iconst 0, 1) := dk_3 (dk_at dksX5_movesOf_0 20 rfl rfl)
theorem dX5_movesOf_21 : decode cX5_movesOf 21 = .ok (.istore 4, 2) := dk_54 4 (dk_at dksX5_movesOf_0 21 rfl rfl)
theorem dX5_movesOf_23 : decode cX5_movesOf 23 = .ok (.iload 4, 2) := dk_21 4 (dk_at dksX5_movesOf_1 0 rfl rfl)
theorem dX5_movesOf_25 : decode cX5_movesOf 25 = .ok (.aload_n 0, 1) := dk_42 (dk_at dksX5_movesOf_1 2 rfl rfl)
theorem dX5_movesOf_26 : decode cX5_movesOf 26 = .ok (.getfield 96, 3) := dk_180 0 96 (dk_at dksX5_movesOf_1 3 rfl rfl)
theorem dX5_movesOf_29 : decode cX5_movesOf 29 = .ok (.if_icmp .ge 95, 3) := dk_162 0 95 (dk_at dksX5_movesOf_1 6 rfl rfl)
theorem dX5_movesOf_32 : decode cX5_movesOf 32 = .ok (.iconst 0, 1) := dk_3 (dk_at dksX5_movesOf_1 9 rfl rfl)
theorem dX5_movesOf_33 : decode cX5_movesOf 33 = .ok (.istore 5, 2) := dk_54 5 (dk_at dksX5_movesOf_1 10 rfl rfl)
theorem dX5_movesOf_35 : decode cX5_movesOf 35 = .ok (.iload 5, 2) := dk_21 5 (dk_at dksX5_movesOf_1 12 rfl rfl)
theorem dX5_movesOf_37 : decode cX5_movesOf 37 = .ok (.aload_n 0, 1) := dk_42 (dk_at dksX5_movesOf_1 14 rfl rfl)
theorem dX5_movesOf_38 : decode cX5_movesOf 38 = .ok (.getfield 96, 3) := dk_180 0 96 (dk_at dksX5_movesOf_1 15 rfl rfl)
theorem dX5_movesOf_41 : decode cX5_movesOf 41 = .ok (.if_icmp .ge 77, 3) := dk_162 0 77 (dk_at dksX5_movesOf_1 18 rfl rfl)
theorem dX5_movesOf_44 : decode cX5_movesOf 44 = .ok (.iload 4, 2) := dk_21 4 (dk_at dksX5_movesOf_1 21 rfl rfl)
theorem dX5_movesOf_46 : decode cX5_movesOf 46 = .ok (.iload 5, 2) := dk_21 5 (dk_at dksX5_movesOf_2 0 rfl rfl)
theorem dX5_movesOf_48 : decode cX5_movesOf 48 = .ok (.if_icmp .eq 64, 3) := dk_159 0 64 (dk_at dksX5_movesOf_2 2 rfl rfl)
theorem dX5_movesOf_51 : decode cX5_movesOf 51 = .ok (.aload_n 0, 1) := dk_42 (dk_at dksX5_movesOf_2 5 rfl rfl)
theorem dX5_movesOf_52 : decode cX5_movesOf 52 = .ok (.iload_n 1, 1) := dk_27 (dk_at dksX5_movesOf_2 6 rfl rfl)
theorem dX5_movesOf_53 : decode cX5_movesOf 53 = .ok (.iconst 0, 1) := dk_3 (dk_at dksX5_movesOf_2 7 rfl rfl)
theorem dX5_movesOf_54 : decode cX5_movesOf 54 = .ok (.iload_n 2, 1) := dk_28 (dk_at dksX5_movesOf_2 8 rfl rfl)
theorem dX5_movesOf_55 : decode cX5_movesOf 55 = .ok (.iload 4, 2) := dk_21 4 (dk_at dksX5_movesOf_2 9 rfl rfl)
theorem dX5_movesOf_57 : decode cX5_movesOf 57 = .ok (.invokevirtual 109, 3) := dk_182 0 109 (dk_at dksX5_movesOf_2 11 rfl rfl)
theorem dX5_movesOf_60 : decode cX5_movesOf 60 = .ok (.aload_n 0, 1) := dk_42 (dk_at dksX5_movesOf_2 14 rfl rfl)
theorem dX5_movesOf_61 : decode cX5_movesOf 61 = .ok (.iload_n 1, 1) := dk_27 (dk_at dksX5_movesOf_2 15 rfl rfl)
theorem dX5_movesOf_62 : decode cX5_movesOf 62 = .ok (.iconst 1, 1) := dk_4 (dk_at dksX5_movesOf_2 16 rfl rfl)
theorem dX5_movesOf_63 : decode cX5_movesOf 63 = .ok (.iload_n 2, 1) := dk_28 (dk_at dksX5_movesOf_2 17 rfl rfl)
theorem dX5_movesOf_64 : decode cX5_movesOf 64 = .ok (.iload 5, 2) := dk_21 5 (dk_at dksX5_movesOf_2 18 rfl rfl)
theorem dX5_movesOf_66 : decode cX5_movesOf 66 = .ok (.invokevirtual 109, 3) := dk_182 0 109 (dk_at dksX5_movesOf_2 20 rfl rfl)
theorem dX5_movesOf_69 : decode cX5_movesOf 69 = .ok (.iadd, 1) := dk_96 (dk_at dksX5_movesOf_2 23 rfl rfl)
theorem dX5_movesOf_70 : decode cX5_movesOf 70 = .ok (.aload_n 0, 1) := dk_42 (dk_at dksX5_movesOf_3 0 rfl rfl)
theorem dX5_movesOf_71 : decode cX5_movesOf 71 = .ok (.getfield 96, 3) := dk_180 0 96 (dk_at dksX5_movesOf_3 1 rfl rfl)
theorem dX5_movesOf_74 : decode cX5_movesOf 74 = .ok (.iconst 3, 1) := dk_6 (dk_at dksX5_movesOf_3 4 rfl rfl)
theorem dX5_movesOf_75 : decode cX5_movesOf 75 = .ok (.if_icmp .ne 20, 3) := dk_160 0 20 (dk_at dksX5_movesOf_3 5 rfl rfl)
theorem dX5_movesOf_78 : decode cX5_movesOf 78 = .ok (.aload_n 0, 1) := dk_42 (dk_at dksX5_movesOf_3 8 rfl rfl)
theorem dX5_movesOf_79 : decode cX5_movesOf 79 = .ok (.iload_n 1, 1) := dk_27 (dk_at dksX5_movesOf_3 9 rfl rfl)
theorem dX5_movesOf_80 : decode cX5_movesOf 80 = .ok (.iconst 2, 1) := dk_5 (dk_at dksX5_movesOf_3 10 rfl rfl)
theorem dX5_movesOf_81 : decode cX5_movesOf 81 = .ok (.iload_n 2, 1) := dk_28 (dk_at dksX5_movesOf_3 11 rfl rfl)
theorem dX5_movesOf_82 : decode cX5_movesOf 82 = .ok (.iconst 3, 1) := dk_6 (dk_at dksX5_movesOf_3 12 rfl rfl)
theorem dX5_movesOf_83 : decode cX5_movesOf 83 = .ok (.iload 4, 2) := dk_21 4 (dk_at dksX5_movesOf_3 13 rfl rfl)
theorem dX5_movesOf_85 : decode cX5_movesOf 85 = .ok (.isub, 1) := dk_100 (dk_at dksX5_movesOf_3 15 rfl rfl)
theorem dX5_movesOf_86 : decode cX5_movesOf 86 = .ok (.iload 5, 2) := dk_21 5 (dk_at dksX5_movesOf_3 16 rfl rfl)
theorem dX5_movesOf_88 : decode cX5_movesOf 88 = .ok (.isub, 1) := dk_100 (dk_at dksX5_movesOf_3 18 rfl rfl)
theorem dX5_movesOf_89 : decode cX5_movesOf 89 = .ok (.invokevirtual 109, 3) := dk_182 0 109 (dk_at dksX5_movesOf_3 19 rfl rfl)
theorem dX5_movesOf_92 : decode cX5_movesOf 92 = .ok (.goto 4, 3) := dk_167 0 4 (dk_at dksX5_movesOf_4 0 rfl rfl)
theorem dX5_movesOf_95 : decode cX5_movesOf 95 = .ok (.iconst 0, 1) := dk_3 (dk_at dksX5_movesOf_4 3 rfl rfl)
theorem dX5_movesOf_96 : decode cX5_movesOf 96 = .ok (.iadd, 1) := dk_96 (dk_at dksX5_movesOf_4 4 rfl rfl)
theorem dX5_movesOf_97 : decode cX5_movesOf 97 = .ok (.istore 6, 2) := dk_54 6 (dk_at dksX5_movesOf_4 5 rfl rfl)
theorem dX5_movesOf_99 : decode cX5_movesOf 99 = .ok (.iload 6, 2) := dk_21 6 (dk_at dksX5_movesOf_4 7 rfl rfl)
theorem dX5_movesOf_101 : decode cX5_movesOf 101 = .ok (.iload_n 3, 1) := dk_29 (dk_at dksX5_movesOf_4 9 rfl rfl)
theorem dX5_movesOf_102 : decode cX5_movesOf 102 = .ok (.if_icmp .ge 8, 3) := dk_162 0 8 (dk_at dksX5_movesOf_4 10 rfl rfl)
theorem dX5_movesOf_105 : decode cX5_movesOf 105 = .ok (.iload 6, 2) := dk_21 6 (dk_at dksX5_movesOf_4 13 rfl rfl)
theorem dX5_movesOf_107 : decode cX5_movesOf 107 = .ok (.goto 4, 3) := dk_167 0 4 (dk_at dksX5_movesOf_4 15 rfl rfl)
theorem dX5_movesOf_110 : decode cX5_movesOf 110 = .ok (.iload_n 3, 1) := dk_29 (dk_at dksX5_movesOf_4 18 rfl rfl)
theorem dX5_movesOf_111 : decode cX5_movesOf 111 = .ok (.istore_n 3, 1) := dk_62 (dk_at dksX5_movesOf_4 19 rfl rfl)
theorem dX5_movesOf_112 : decode cX5_movesOf 112 = .ok (.iinc 5 1, 3) := dk_132 5 1 (dk_at dksX5_movesOf_4 20 rfl rfl)
theorem dX5_movesOf_115 : decode cX5_movesOf 115 = .ok (.goto (-80), 3) := dk_167 255 176 (dk_at dksX5_movesOf_5 0 rfl rfl)
theorem dX5_movesOf_118 : decode cX5_movesOf 118 = .ok (.iinc 4 1, 3) := dk_132 4 1 (dk_at dksX5_movesOf_5 3 rfl rfl)
theorem dX5_movesOf_121 : decode cX5_movesOf 121 = .ok (.goto (-98), 3) := dk_167 255 158 (dk_at dksX5_movesOf_5 6 rfl rfl)
theorem dX5_movesOf_124 : decode cX5_movesOf 124 = .ok (.iload_n 3, 1) := dk_29 (dk_at dksX5_movesOf_5 9 rfl rfl)
theorem dX5_movesOf_125 : decode cX5_movesOf 125 = .ok (.ireturn, 1) := dk_172 (dk_at dksX5_movesOf_5 10 rfl rfl)
abbrev cX5_farOf : ByteArray := prog_13_method_13_code
def yX5_farOf : MethodName := ⟨RX5, "farOf", "(IIII)I"⟩
def dkwX5_farOf_1 : List UInt8 := [96, 46, 172]
abbrev dktX5_farOf_1 : List UInt8 := dkwX5_farOf_1 ++ []
def dkwX5_farOf_0 : List UInt8 := [42, 180, 0, 19, 16, 6, 27, 6, 28, 104, 122, 16, 7, 126, 104, 29, 6, 21, 4, 104, 122, 16, 7, 126]
abbrev dktX5_farOf_0 : List UInt8 := dkwX5_farOf_0 ++ dktX5_farOf_1
theorem dksX5_farOf_0 : cX5_farOf.data.toList.drop 0 = dktX5_farOf_0 := by decide +kernel
theorem dksX5_farOf_1 : cX5_farOf.data.toList.drop 24 = dktX5_farOf_1 := dk_seg dksX5_farOf_0 24 rfl rfl
theorem dX5_farOf_0 : decode cX5_farOf 0 = .ok (.aload_n 0, 1) := dk_42 (dk_at dksX5_farOf_0 0 rfl rfl)
theorem dX5_farOf_1 : decode cX5_farOf 1 = .ok (.getfield 19, 3) := dk_180 0 19 (dk_at dksX5_farOf_0 1 rfl rfl)
theorem dX5_farOf_4 : decode cX5_farOf 4 = .ok (.bipush 6, 2) := dk_16 6 (dk_at dksX5_farOf_0 4 rfl rfl)
theorem dX5_farOf_6 : decode cX5_farOf 6 = .ok (.iload_n 1, 1) := dk_27 (dk_at dksX5_farOf_0 6 rfl rfl)
theorem dX5_farOf_7 : decode cX5_farOf 7 = .ok (.iconst 3, 1) := dk_6 (dk_at dksX5_farOf_0 7 rfl rfl)
theorem dX5_farOf_8 : decode cX5_farOf 8 = .ok (.iload_n 2, 1) := dk_28 (dk_at dksX5_farOf_0 8 rfl rfl)
theorem dX5_farOf_9 : decode cX5_farOf 9 = .ok (.imul, 1) := dk_104 (dk_at dksX5_farOf_0 9 rfl rfl)
theorem dX5_farOf_10 : decode cX5_farOf 10 = .ok (.ishr, 1) := dk_122 (dk_at dksX5_farOf_0 10 rfl rfl)
theorem dX5_farOf_11 : decode cX5_farOf 11 = .ok (.bipush 7, 2) := dk_16 7 (dk_at dksX5_farOf_0 11 rfl rfl)
theorem dX5_farOf_13 : decode cX5_farOf 13 = .ok (.iand, 1) := dk_126 (dk_at dksX5_farOf_0 13 rfl rfl)
theorem dX5_farOf_14 : decode cX5_farOf 14 = .ok (.imul, 1) := dk_104 (dk_at dksX5_farOf_0 14 rfl rfl)
theorem dX5_farOf_15 : decode cX5_farOf 15 = .ok (.iload_n 3, 1) := dk_29 (dk_at dksX5_farOf_0 15 rfl rfl)
theorem dX5_farOf_16 : decode cX5_farOf 16 = .ok (.iconst 3, 1) := dk_6 (dk_at dksX5_farOf_0 16 rfl rfl)
theorem dX5_farOf_17 : decode cX5_farOf 17 = .ok (.iload 4, 2) := dk_21 4 (dk_at dksX5_farOf_0 17 rfl rfl)
theorem dX5_farOf_19 : decode cX5_farOf 19 = .ok (.imul, 1) := dk_104 (dk_at dksX5_farOf_0 19 rfl rfl)
theorem dX5_farOf_20 : decode cX5_farOf 20 = .ok (.ishr, 1) := dk_122 (dk_at dksX5_farOf_0 20 rfl rfl)
theorem dX5_farOf_21 : decode cX5_farOf 21 = .ok (.bipush 7, 2) := dk_16 7 (dk_at dksX5_farOf_0 21 rfl rfl)
theorem dX5_farOf_23 : decode cX5_farOf 23 = .ok (.iand, 1) := dk_126 (dk_at dksX5_farOf_0 23 rfl rfl)
theorem dX5_farOf_24 : decode cX5_farOf 24 = .ok (.iadd, 1) := dk_96 (dk_at dksX5_farOf_1 0 rfl rfl)
theorem dX5_farOf_25 : decode cX5_farOf 25 = .ok (.iaload, 1) := dk_46 (dk_at dksX5_farOf_1 1 rfl rfl)
theorem dX5_farOf_26 : decode cX5_farOf 26 = .ok (.ireturn, 1) := dk_172 (dk_at dksX5_farOf_1 2 rfl rfl)
abbrev cX5_back : ByteArray := prog_13_method_29_code
def yX5_back : MethodName := ⟨RX5, "back", "()I"⟩
def dkwX5_back_3 : List UInt8 := [46, 100, 79, 42, 42, 180, 0, 43, 42, 180, 0, 165, 46, 181, 0, 168, 42, 180, 0, 165, 172]
abbrev dktX5_back_3 : List UInt8 := dkwX5_back_3 ++ []
def dkwX5_back_2 : List UInt8 := [180, 0, 40, 42, 180, 0, 165, 46, 79, 42, 180, 0, 25, 27, 92, 46, 42, 180, 0, 34, 42, 180, 0, 165]
abbrev dktX5_back_2 : List UInt8 := dkwX5_back_2 ++ dktX5_back_3
def dkwX5_back_1 : List UInt8 := [180, 0, 165, 4, 100, 181, 0, 165, 42, 180, 0, 31, 42, 180, 0, 165, 46, 60, 42, 180, 0, 22, 27, 42]
abbrev dktX5_back_1 : List UInt8 := dkwX5_back_1 ++ dktX5_back_2
def dkwX5_back_0 : List UInt8 := [42, 3, 181, 0, 78, 42, 180, 0, 96, 153, 0, 10, 42, 180, 0, 165, 154, 0, 6, 16, 254, 172, 42, 89]
abbrev dktX5_back_0 : List UInt8 := dkwX5_back_0 ++ dktX5_back_1
theorem dksX5_back_0 : cX5_back.data.toList.drop 0 = dktX5_back_0 := by decide +kernel
theorem dksX5_back_1 : cX5_back.data.toList.drop 24 = dktX5_back_1 := dk_seg dksX5_back_0 24 rfl rfl
theorem dksX5_back_2 : cX5_back.data.toList.drop 48 = dktX5_back_2 := dk_seg dksX5_back_1 24 rfl rfl
theorem dksX5_back_3 : cX5_back.data.toList.drop 72 = dktX5_back_3 := dk_seg dksX5_back_2 24 rfl rfl
theorem dX5_back_0 : decode cX5_back 0 = .ok (.aload_n 0, 1) := dk_42 (dk_at dksX5_back_0 0 rfl rfl)
theorem dX5_back_1 : decode cX5_back 1 = .ok (.iconst 0, 1) := dk_3 (dk_at dksX5_back_0 1 rfl rfl)
theorem dX5_back_2 : decode cX5_back 2 = .ok (.putfield 78, 3) := dk_181 0 78 (dk_at dksX5_back_0 2 rfl rfl)
theorem dX5_back_5 : decode cX5_back 5 = .ok (.aload_n 0, 1) := dk_42 (dk_at dksX5_back_0 5 rfl rfl)
theorem dX5_back_6 : decode cX5_back 6 = .ok (.getfield 96, 3) := dk_180 0 96 (dk_at dksX5_back_0 6 rfl rfl)
theorem dX5_back_9 : decode cX5_back 9 = .ok (.ifCond .eq 10, 3) := dk_153 0 10 (dk_at dksX5_back_0 9 rfl rfl)
theorem dX5_back_12 : decode cX5_back 12 = .ok (.aload_n 0, 1) := dk_42 (dk_at dksX5_back_0 12 rfl rfl)
theorem dX5_back_13 : decode cX5_back 13 = .ok (.getfield 165, 3) := dk_180 0 165 (dk_at dksX5_back_0 13 rfl rfl)
theorem dX5_back_16 : decode cX5_back 16 = .ok (.ifCond .ne 6, 3) := dk_154 0 6 (dk_at dksX5_back_0 16 rfl rfl)
theorem dX5_back_19 : decode cX5_back 19 = .ok (.bipush (-2), 2) := dk_16 254 (dk_at dksX5_back_0 19 rfl rfl)
theorem dX5_back_21 : decode cX5_back 21 = .ok (.ireturn, 1) := dk_172 (dk_at dksX5_back_0 21 rfl rfl)
theorem dX5_back_22 : decode cX5_back 22 = .ok (.aload_n 0, 1) := dk_42 (dk_at dksX5_back_0 22 rfl rfl)
theorem dX5_back_23 : decode cX5_back 23 = .ok (.dup, 1) := dk_89 (dk_at dksX5_back_0 23 rfl rfl)
theorem dX5_back_24 : decode cX5_back 24 = .ok (.getfield 165, 3) := dk_180 0 165 (dk_at dksX5_back_1 0 rfl rfl)
theorem dX5_back_27 : decode cX5_back 27 = .ok (.iconst 1, 1) := dk_4 (dk_at dksX5_back_1 3 rfl rfl)
theorem dX5_back_28 : decode cX5_back 28 = .ok (.isub, 1) := dk_100 (dk_at dksX5_back_1 4 rfl rfl)
theorem dX5_back_29 : decode cX5_back 29 = .ok (.putfield 165, 3) := dk_181 0 165 (dk_at dksX5_back_1 5 rfl rfl)
theorem dX5_back_32 : decode cX5_back 32 = .ok (.aload_n 0, 1) := dk_42 (dk_at dksX5_back_1 8 rfl rfl)
theorem dX5_back_33 : decode cX5_back 33 = .ok (.getfield 31, 3) := dk_180 0 31 (dk_at dksX5_back_1 9 rfl rfl)
theorem dX5_back_36 : decode cX5_back 36 = .ok (.aload_n 0, 1) := dk_42 (dk_at dksX5_back_1 12 rfl rfl)
theorem dX5_back_37 : decode cX5_back 37 = .ok (.getfield 165, 3) := dk_180 0 165 (dk_at dksX5_back_1 13 rfl rfl)
theorem dX5_back_40 : decode cX5_back 40 = .ok (.iaload, 1) := dk_46 (dk_at dksX5_back_1 16 rfl rfl)
theorem dX5_back_41 : decode cX5_back 41 = .ok (.istore_n 1, 1) := dk_60 (dk_at dksX5_back_1 17 rfl rfl)
theorem dX5_back_42 : decode cX5_back 42 = .ok (.aload_n 0, 1) := dk_42 (dk_at dksX5_back_1 18 rfl rfl)
theorem dX5_back_43 : decode cX5_back 43 = .ok (.getfield 22, 3) := dk_180 0 22 (dk_at dksX5_back_1 19 rfl rfl)
theorem dX5_back_46 : decode cX5_back 46 = .ok (.iload_n 1, 1) := dk_27 (dk_at dksX5_back_1 22 rfl rfl)
theorem dX5_back_47 : decode cX5_back 47 = .ok (.aload_n 0, 1) := dk_42 (dk_at dksX5_back_1 23 rfl rfl)
theorem dX5_back_48 : decode cX5_back 48 = .ok (.getfield 40, 3) := dk_180 0 40 (dk_at dksX5_back_2 0 rfl rfl)
theorem dX5_back_51 : decode cX5_back 51 = .ok (.aload_n 0, 1) := dk_42 (dk_at dksX5_back_2 3 rfl rfl)
theorem dX5_back_52 : decode cX5_back 52 = .ok (.getfield 165, 3) := dk_180 0 165 (dk_at dksX5_back_2 4 rfl rfl)
theorem dX5_back_55 : decode cX5_back 55 = .ok (.iaload, 1) := dk_46 (dk_at dksX5_back_2 7 rfl rfl)
theorem dX5_back_56 : decode cX5_back 56 = .ok (.iastore, 1) := dk_79 (dk_at dksX5_back_2 8 rfl rfl)
theorem dX5_back_57 : decode cX5_back 57 = .ok (.aload_n 0, 1) := dk_42 (dk_at dksX5_back_2 9 rfl rfl)
theorem dX5_back_58 : decode cX5_back 58 = .ok (.getfield 25, 3) := dk_180 0 25 (dk_at dksX5_back_2 10 rfl rfl)
theorem dX5_back_61 : decode cX5_back 61 = .ok (.iload_n 1, 1) := dk_27 (dk_at dksX5_back_2 13 rfl rfl)
theorem dX5_back_62 : decode cX5_back 62 = .ok (.dup2, 1) := dk_92 (dk_at dksX5_back_2 14 rfl rfl)
theorem dX5_back_63 : decode cX5_back 63 = .ok (.iaload, 1) := dk_46 (dk_at dksX5_back_2 15 rfl rfl)
theorem dX5_back_64 : decode cX5_back 64 = .ok (.aload_n 0, 1) := dk_42 (dk_at dksX5_back_2 16 rfl rfl)
theorem dX5_back_65 : decode cX5_back 65 = .ok (.getfield 34, 3) := dk_180 0 34 (dk_at dksX5_back_2 17 rfl rfl)
theorem dX5_back_68 : decode cX5_back 68 = .ok (.aload_n 0, 1) := dk_42 (dk_at dksX5_back_2 20 rfl rfl)
theorem dX5_back_69 : decode cX5_back 69 = .ok (.getfield 165, 3) := dk_180 0 165 (dk_at dksX5_back_2 21 rfl rfl)
theorem dX5_back_72 : decode cX5_back 72 = .ok (.iaload, 1) := dk_46 (dk_at dksX5_back_3 0 rfl rfl)
theorem dX5_back_73 : decode cX5_back 73 = .ok (.isub, 1) := dk_100 (dk_at dksX5_back_3 1 rfl rfl)
theorem dX5_back_74 : decode cX5_back 74 = .ok (.iastore, 1) := dk_79 (dk_at dksX5_back_3 2 rfl rfl)
theorem dX5_back_75 : decode cX5_back 75 = .ok (.aload_n 0, 1) := dk_42 (dk_at dksX5_back_3 3 rfl rfl)
theorem dX5_back_76 : decode cX5_back 76 = .ok (.aload_n 0, 1) := dk_42 (dk_at dksX5_back_3 4 rfl rfl)
theorem dX5_back_77 : decode cX5_back 77 = .ok (.getfield 43, 3) := dk_180 0 43 (dk_at dksX5_back_3 5 rfl rfl)
theorem dX5_back_80 : decode cX5_back 80 = .ok (.aload_n 0, 1) := dk_42 (dk_at dksX5_back_3 8 rfl rfl)
theorem dX5_back_81 : decode cX5_back 81 = .ok (.getfield 165, 3) := dk_180 0 165 (dk_at dksX5_back_3 9 rfl rfl)
theorem dX5_back_84 : decode cX5_back 84 = .ok (.iaload, 1) := dk_46 (dk_at dksX5_back_3 12 rfl rfl)
theorem dX5_back_85 : decode cX5_back 85 = .ok (.putfield 168, 3) := dk_181 0 168 (dk_at dksX5_back_3 13 rfl rfl)
theorem dX5_back_88 : decode cX5_back 88 = .ok (.aload_n 0, 1) := dk_42 (dk_at dksX5_back_3 16 rfl rfl)
theorem dX5_back_89 : decode cX5_back 89 = .ok (.getfield 165, 3) := dk_180 0 165 (dk_at dksX5_back_3 17 rfl rfl)
theorem dX5_back_92 : decode cX5_back 92 = .ok (.ireturn, 1) := dk_172 (dk_at dksX5_back_3 20 rfl rfl)
abbrev cX5_cruel : ByteArray := prog_13_method_30_code
def yX5_cruel : MethodName := ⟨RX5, "cruel", "()I"⟩
def dkwX5_cruel_3 : List UInt8 := [42, 27, 182, 0, 179, 61, 27, 172]
abbrev dktX5_cruel_3 : List UInt8 := dkwX5_cruel_3 ++ []
def dkwX5_cruel_2 : List UInt8 := [167, 255, 224, 27, 16, 247, 160, 0, 6, 16, 254, 172, 42, 180, 0, 165, 16, 12, 160, 0, 6, 16, 253, 172]
abbrev dktX5_cruel_2 : List UInt8 := dkwX5_cruel_2 ++ dktX5_cruel_3
def dkwX5_cruel_1 : List UInt8 := [158, 0, 27, 42, 42, 180, 0, 22, 28, 182, 0, 130, 153, 0, 7, 27, 167, 0, 4, 28, 60, 132, 2, 255]
abbrev dktX5_cruel_1 : List UInt8 := dkwX5_cruel_1 ++ dktX5_cruel_2
def dkwX5_cruel_0 : List UInt8 := [42, 3, 181, 0, 78, 16, 247, 60, 42, 180, 0, 82, 4, 100, 61, 28, 155, 0, 34, 42, 180, 0, 96]
abbrev dktX5_cruel_0 : List UInt8 := dkwX5_cruel_0 ++ dktX5_cruel_1
theorem dksX5_cruel_0 : cX5_cruel.data.toList.drop 0 = dktX5_cruel_0 := by decide +kernel
theorem dksX5_cruel_1 : cX5_cruel.data.toList.drop 23 = dktX5_cruel_1 := dk_seg dksX5_cruel_0 23 rfl rfl
theorem dksX5_cruel_2 : cX5_cruel.data.toList.drop 47 = dktX5_cruel_2 := dk_seg dksX5_cruel_1 24 rfl rfl
theorem dksX5_cruel_3 : cX5_cruel.data.toList.drop 71 = dktX5_cruel_3 := dk_seg dksX5_cruel_2 24 rfl rfl
theorem dX5_cruel_0 : decode cX5_cruel 0 = .ok (.aload_n 0, 1) := dk_42 (dk_at dksX5_cruel_0 0 rfl rfl)
theorem dX5_cruel_1 : decode cX5_cruel 1 = .ok (.iconst 0, 1) := dk_3 (dk_at dksX5_cruel_0 1 rfl rfl)
theorem dX5_cruel_2 : decode cX5_cruel 2 = .ok (.putfield 78, 3) := dk_181 0 78 (dk_at dksX5_cruel_0 2 rfl rfl)
theorem dX5_cruel_5 : decode cX5_cruel 5 = .ok (.bipush (-9), 2) := dk_16 247 (dk_at dksX5_cruel_0 5 rfl rfl)
theorem dX5_cruel_7 : decode cX5_cruel 7 = .ok (.istore_n 1, 1) := dk_60 (dk_at dksX5_cruel_0 7 rfl rfl)
theorem dX5_cruel_8 : decode cX5_cruel 8 = .ok (.aload_n 0, 1) := dk_42 (dk_at dksX5_cruel_0 8 rfl rfl)
theorem dX5_cruel_9 : decode cX5_cruel 9 = .ok (.getfield 82, 3) := dk_180 0 82 (dk_at dksX5_cruel_0 9 rfl rfl)
theorem dX5_cruel_12 : decode cX5_cruel 12 = .ok (.iconst 1, 1) := dk_4 (dk_at dksX5_cruel_0 12 rfl rfl)
theorem dX5_cruel_13 : decode cX5_cruel 13 = .ok (.isub, 1) := dk_100 (dk_at dksX5_cruel_0 13 rfl rfl)
theorem dX5_cruel_14 : decode cX5_cruel 14 = .ok (.istore_n 2, 1) := dk_61 (dk_at dksX5_cruel_0 14 rfl rfl)
theorem dX5_cruel_15 : decode cX5_cruel 15 = .ok (.iload_n 2, 1) := dk_28 (dk_at dksX5_cruel_0 15 rfl rfl)
theorem dX5_cruel_16 : decode cX5_cruel 16 = .ok (.ifCond .lt 34, 3) := dk_155 0 34 (dk_at dksX5_cruel_0 16 rfl rfl)
theorem dX5_cruel_19 : decode cX5_cruel 19 = .ok (.aload_n 0, 1) := dk_42 (dk_at dksX5_cruel_0 19 rfl rfl)
theorem dX5_cruel_20 : decode cX5_cruel 20 = .ok (.getfield 96, 3) := dk_180 0 96 (dk_at dksX5_cruel_0 20 rfl rfl)
theorem dX5_cruel_23 : decode cX5_cruel 23 = .ok (.ifCond .le 27, 3) := dk_158 0 27 (dk_at dksX5_cruel_1 0 rfl rfl)
theorem dX5_cruel_26 : decode cX5_cruel 26 = .ok (.aload_n 0, 1) := dk_42 (dk_at dksX5_cruel_1 3 rfl rfl)
theorem dX5_cruel_27 : decode cX5_cruel 27 = .ok (.aload_n 0, 1) := dk_42 (dk_at dksX5_cruel_1 4 rfl rfl)
theorem dX5_cruel_28 : decode cX5_cruel 28 = .ok (.getfield 22, 3) := dk_180 0 22 (dk_at dksX5_cruel_1 5 rfl rfl)
theorem dX5_cruel_31 : decode cX5_cruel 31 = .ok (.iload_n 2, 1) := dk_28 (dk_at dksX5_cruel_1 8 rfl rfl)
theorem dX5_cruel_32 : decode cX5_cruel 32 = .ok (.invokevirtual 130, 3) := dk_182 0 130 (dk_at dksX5_cruel_1 9 rfl rfl)
theorem dX5_cruel_35 : decode cX5_cruel 35 = .ok (.ifCond .eq 7, 3) := dk_153 0 7 (dk_at dksX5_cruel_1 12 rfl rfl)
theorem dX5_cruel_38 : decode cX5_cruel 38 = .ok (.iload_n 1, 1) := dk_27 (dk_at dksX5_cruel_1 15 rfl rfl)
theorem dX5_cruel_39 : decode cX5_cruel 39 = .ok (.goto 4, 3) := dk_167 0 4 (dk_at dksX5_cruel_1 16 rfl rfl)
theorem dX5_cruel_42 : decode cX5_cruel 42 = .ok (.iload_n 2, 1) := dk_28 (dk_at dksX5_cruel_1 19 rfl rfl)
theorem dX5_cruel_43 : decode cX5_cruel 43 = .ok (.istore_n 1, 1) := dk_60 (dk_at dksX5_cruel_1 20 rfl rfl)
theorem dX5_cruel_44 : decode cX5_cruel 44 = .ok (.iinc 2 (-1), 3) := dk_132 2 255 (dk_at dksX5_cruel_1 21 rfl rfl)
theorem dX5_cruel_47 : decode cX5_cruel 47 = .ok (.goto (-32), 3) := dk_167 255 224 (dk_at dksX5_cruel_2 0 rfl rfl)
theorem dX5_cruel_50 : decode cX5_cruel 50 = .ok (.iload_n 1, 1) := dk_27 (dk_at dksX5_cruel_2 3 rfl rfl)
theorem dX5_cruel_51 : decode cX5_cruel 51 = .ok (.bipush (-9), 2) := dk_16 247 (dk_at dksX5_cruel_2 4 rfl rfl)
theorem dX5_cruel_53 : decode cX5_cruel 53 = .ok (.if_icmp .ne 6, 3) := dk_160 0 6 (dk_at dksX5_cruel_2 6 rfl rfl)
theorem dX5_cruel_56 : decode cX5_cruel 56 = .ok (.bipush (-2), 2) := dk_16 254 (dk_at dksX5_cruel_2 9 rfl rfl)
theorem dX5_cruel_58 : decode cX5_cruel 58 = .ok (.ireturn, 1) := dk_172 (dk_at dksX5_cruel_2 11 rfl rfl)
theorem dX5_cruel_59 : decode cX5_cruel 59 = .ok (.aload_n 0, 1) := dk_42 (dk_at dksX5_cruel_2 12 rfl rfl)
theorem dX5_cruel_60 : decode cX5_cruel 60 = .ok (.getfield 165, 3) := dk_180 0 165 (dk_at dksX5_cruel_2 13 rfl rfl)
theorem dX5_cruel_63 : decode cX5_cruel 63 = .ok (.bipush 12, 2) := dk_16 12 (dk_at dksX5_cruel_2 16 rfl rfl)
theorem dX5_cruel_65 : decode cX5_cruel 65 = .ok (.if_icmp .ne 6, 3) := dk_160 0 6 (dk_at dksX5_cruel_2 18 rfl rfl)
theorem dX5_cruel_68 : decode cX5_cruel 68 = .ok (.bipush (-3), 2) := dk_16 253 (dk_at dksX5_cruel_2 21 rfl rfl)
theorem dX5_cruel_70 : decode cX5_cruel 70 = .ok (.ireturn, 1) := dk_172 (dk_at dksX5_cruel_2 23 rfl rfl)
theorem dX5_cruel_71 : decode cX5_cruel 71 = .ok (.aload_n 0, 1) := dk_42 (dk_at dksX5_cruel_3 0 rfl rfl)
theorem dX5_cruel_72 : decode cX5_cruel 72 = .ok (.iload_n 1, 1) := dk_27 (dk_at dksX5_cruel_3 1 rfl rfl)
theorem dX5_cruel_73 : decode cX5_cruel 73 = .ok (.invokevirtual 179, 3) := dk_182 0 179 (dk_at dksX5_cruel_3 2 rfl rfl)
theorem dX5_cruel_76 : decode cX5_cruel 76 = .ok (.istore_n 2, 1) := dk_61 (dk_at dksX5_cruel_3 5 rfl rfl)
theorem dX5_cruel_77 : decode cX5_cruel 77 = .ok (.iload_n 1, 1) := dk_27 (dk_at dksX5_cruel_3 6 rfl rfl)
theorem dX5_cruel_78 : decode cX5_cruel 78 = .ok (.ireturn, 1) := dk_172 (dk_at dksX5_cruel_3 7 rfl rfl)
abbrev cX5_ask : ByteArray := prog_13_method_31_code
def yX5_ask : MethodName := ⟨RX5, "ask", "(I)I"⟩
def dkwX5_ask_3 : List UInt8 := [180, 0, 168, 42, 180, 0, 49, 3, 27, 182, 0, 175, 172]
abbrev dktX5_ask_3 : List UInt8 := dkwX5_ask_3 ++ []
def dkwX5_ask_2 : List UInt8 := [180, 0, 165, 104, 28, 96, 46, 79, 132, 2, 1, 167, 255, 225, 42, 42, 180, 0, 22, 42, 180, 0, 25, 42]
abbrev dktX5_ask_2 : List UInt8 := dkwX5_ask_2 ++ dktX5_ask_3
def dkwX5_ask_1 : List UInt8 := [172, 3, 61, 28, 17, 2, 0, 162, 0, 30, 42, 180, 0, 49, 28, 42, 180, 0, 46, 17, 2, 0, 42]
abbrev dktX5_ask_1 : List UInt8 := dkwX5_ask_1 ++ dktX5_ask_2
def dkwX5_ask_0 : List UInt8 := [42, 3, 181, 0, 78, 42, 27, 182, 0, 105, 154, 0, 5, 2, 172, 42, 180, 0, 96, 154, 0, 6, 16, 254]
abbrev dktX5_ask_0 : List UInt8 := dkwX5_ask_0 ++ dktX5_ask_1
theorem dksX5_ask_0 : cX5_ask.data.toList.drop 0 = dktX5_ask_0 := by decide +kernel
theorem dksX5_ask_1 : cX5_ask.data.toList.drop 24 = dktX5_ask_1 := dk_seg dksX5_ask_0 24 rfl rfl
theorem dksX5_ask_2 : cX5_ask.data.toList.drop 47 = dktX5_ask_2 := dk_seg dksX5_ask_1 23 rfl rfl
theorem dksX5_ask_3 : cX5_ask.data.toList.drop 71 = dktX5_ask_3 := dk_seg dksX5_ask_2 24 rfl rfl
theorem dX5_ask_0 : decode cX5_ask 0 = .ok (.aload_n 0, 1) := dk_42 (dk_at dksX5_ask_0 0 rfl rfl)
theorem dX5_ask_1 : decode cX5_ask 1 = .ok (.iconst 0, 1) := dk_3 (dk_at dksX5_ask_0 1 rfl rfl)
theorem dX5_ask_2 : decode cX5_ask 2 = .ok (.putfield 78, 3) := dk_181 0 78 (dk_at dksX5_ask_0 2 rfl rfl)
theorem dX5_ask_5 : decode cX5_ask 5 = .ok (.aload_n 0, 1) := dk_42 (dk_at dksX5_ask_0 5 rfl rfl)
theorem dX5_ask_6 : decode cX5_ask 6 = .ok (.iload_n 1, 1) := dk_27 (dk_at dksX5_ask_0 6 rfl rfl)
theorem dX5_ask_7 : decode cX5_ask 7 = .ok (.invokevirtual 105, 3) := dk_182 0 105 (dk_at dksX5_ask_0 7 rfl rfl)
theorem dX5_ask_10 : decode cX5_ask 10 = .ok (.ifCond .ne 5, 3) := dk_154 0 5 (dk_at dksX5_ask_0 10 rfl rfl)
theorem dX5_ask_13 : decode cX5_ask 13 = .ok (.iconst (-1), 1) := dk_2 (dk_at dksX5_ask_0 13 rfl rfl)
theorem dX5_ask_14 : decode cX5_ask 14 = .ok (.ireturn, 1) := dk_172 (dk_at dksX5_ask_0 14 rfl rfl)
theorem dX5_ask_15 : decode cX5_ask 15 = .ok (.aload_n 0, 1) := dk_42 (dk_at dksX5_ask_0 15 rfl rfl)
theorem dX5_ask_16 : decode cX5_ask 16 = .ok (.getfield 96, 3) := dk_180 0 96 (dk_at dksX5_ask_0 16 rfl rfl)
theorem dX5_ask_19 : decode cX5_ask 19 = .ok (.ifCond .ne 6, 3) := dk_154 0 6 (dk_at dksX5_ask_0 19 rfl rfl)
theorem dX5_ask_22 : decode cX5_ask 22 = .ok (.bipush (-2), 2) := dk_16 254 (dk_at dksX5_ask_0 22 rfl rfl)
theorem dX5_ask_24 : decode cX5_ask 24 = .ok (.ireturn, 1) := dk_172 (dk_at dksX5_ask_1 0 rfl rfl)
theorem dX5_ask_25 : decode cX5_ask 25 = .ok (.iconst 0, 1) := dk_3 (dk_at dksX5_ask_1 1 rfl rfl)
theorem dX5_ask_26 : decode cX5_ask 26 = .ok (.istore_n 2, 1) := dk_61 (dk_at dksX5_ask_1 2 rfl rfl)
theorem dX5_ask_27 : decode cX5_ask 27 = .ok (.iload_n 2, 1) := dk_28 (dk_at dksX5_ask_1 3 rfl rfl)
theorem dX5_ask_28 : decode cX5_ask 28 = .ok (.sipush 512, 3) := dk_17 2 0 (dk_at dksX5_ask_1 4 rfl rfl)
theorem dX5_ask_31 : decode cX5_ask 31 = .ok (.if_icmp .ge 30, 3) := dk_162 0 30 (dk_at dksX5_ask_1 7 rfl rfl)
theorem dX5_ask_34 : decode cX5_ask 34 = .ok (.aload_n 0, 1) := dk_42 (dk_at dksX5_ask_1 10 rfl rfl)
theorem dX5_ask_35 : decode cX5_ask 35 = .ok (.getfield 49, 3) := dk_180 0 49 (dk_at dksX5_ask_1 11 rfl rfl)
theorem dX5_ask_38 : decode cX5_ask 38 = .ok (.iload_n 2, 1) := dk_28 (dk_at dksX5_ask_1 14 rfl rfl)
theorem dX5_ask_39 : decode cX5_ask 39 = .ok (.aload_n 0, 1) := dk_42 (dk_at dksX5_ask_1 15 rfl rfl)
theorem dX5_ask_40 : decode cX5_ask 40 = .ok (.getfield 46, 3) := dk_180 0 46 (dk_at dksX5_ask_1 16 rfl rfl)
theorem dX5_ask_43 : decode cX5_ask 43 = .ok (.sipush 512, 3) := dk_17 2 0 (dk_at dksX5_ask_1 19 rfl rfl)
theorem dX5_ask_46 : decode cX5_ask 46 = .ok (.aload_n 0, 1) := dk_42 (dk_at dksX5_ask_1 22 rfl rfl)
theorem dX5_ask_47 : decode cX5_ask 47 = .ok (.getfield 165, 3) := dk_180 0 165 (dk_at dksX5_ask_2 0 rfl rfl)
theorem dX5_ask_50 : decode cX5_ask 50 = .ok (.imul, 1) := dk_104 (dk_at dksX5_ask_2 3 rfl rfl)
theorem dX5_ask_51 : decode cX5_ask 51 = .ok (.iload_n 2, 1) := dk_28 (dk_at dksX5_ask_2 4 rfl rfl)
theorem dX5_ask_52 : decode cX5_ask 52 = .ok (.iadd, 1) := dk_96 (dk_at dksX5_ask_2 5 rfl rfl)
theorem dX5_ask_53 : decode cX5_ask 53 = .ok (.iaload, 1) := dk_46 (dk_at dksX5_ask_2 6 rfl rfl)
theorem dX5_ask_54 : decode cX5_ask 54 = .ok (.iastore, 1) := dk_79 (dk_at dksX5_ask_2 7 rfl rfl)
theorem dX5_ask_55 : decode cX5_ask 55 = .ok (.iinc 2 1, 3) := dk_132 2 1 (dk_at dksX5_ask_2 8 rfl rfl)
theorem dX5_ask_58 : decode cX5_ask 58 = .ok (.goto (-31), 3) := dk_167 255 225 (dk_at dksX5_ask_2 11 rfl rfl)
theorem dX5_ask_61 : decode cX5_ask 61 = .ok (.aload_n 0, 1) := dk_42 (dk_at dksX5_ask_2 14 rfl rfl)
theorem dX5_ask_62 : decode cX5_ask 62 = .ok (.aload_n 0, 1) := dk_42 (dk_at dksX5_ask_2 15 rfl rfl)
theorem dX5_ask_63 : decode cX5_ask 63 = .ok (.getfield 22, 3) := dk_180 0 22 (dk_at dksX5_ask_2 16 rfl rfl)
theorem dX5_ask_66 : decode cX5_ask 66 = .ok (.aload_n 0, 1) := dk_42 (dk_at dksX5_ask_2 19 rfl rfl)
theorem dX5_ask_67 : decode cX5_ask 67 = .ok (.getfield 25, 3) := dk_180 0 25 (dk_at dksX5_ask_2 20 rfl rfl)
theorem dX5_ask_70 : decode cX5_ask 70 = .ok (.aload_n 0, 1) := dk_42 (dk_at dksX5_ask_2 23 rfl rfl)
theorem dX5_ask_71 : decode cX5_ask 71 = .ok (.getfield 168, 3) := dk_180 0 168 (dk_at dksX5_ask_3 0 rfl rfl)
theorem dX5_ask_74 : decode cX5_ask 74 = .ok (.aload_n 0, 1) := dk_42 (dk_at dksX5_ask_3 3 rfl rfl)
theorem dX5_ask_75 : decode cX5_ask 75 = .ok (.getfield 49, 3) := dk_180 0 49 (dk_at dksX5_ask_3 4 rfl rfl)
theorem dX5_ask_78 : decode cX5_ask 78 = .ok (.iconst 0, 1) := dk_3 (dk_at dksX5_ask_3 7 rfl rfl)
theorem dX5_ask_79 : decode cX5_ask 79 = .ok (.iload_n 1, 1) := dk_27 (dk_at dksX5_ask_3 8 rfl rfl)
theorem dX5_ask_80 : decode cX5_ask 80 = .ok (.invokevirtual 175, 3) := dk_182 0 175 (dk_at dksX5_ask_3 9 rfl rfl)
theorem dX5_ask_83 : decode cX5_ask 83 = .ok (.ireturn, 1) := dk_172 (dk_at dksX5_ask_3 12 rfl rfl)
abbrev cX5_stand : ByteArray := prog_13_method_32_code
def yX5_stand : MethodName := ⟨RX5, "stand", "()I"⟩
def dkwX5_stand_2 : List UInt8 := [27, 172]
abbrev dktX5_stand_2 : List UInt8 := dkwX5_stand_2 ++ []
def dkwX5_stand_1 : List UInt8 := [6, 28, 104, 120, 128, 60, 132, 2, 1, 167, 255, 232, 42, 180, 0, 96, 154, 0, 8, 16, 254, 167, 0, 4]
abbrev dktX5_stand_1 : List UInt8 := dkwX5_stand_1 ++ dktX5_stand_2
def dkwX5_stand_0 : List UInt8 := [42, 3, 181, 0, 78, 3, 60, 3, 61, 28, 42, 180, 0, 96, 162, 0, 22, 27, 42, 180, 0, 22, 28, 46]
abbrev dktX5_stand_0 : List UInt8 := dkwX5_stand_0 ++ dktX5_stand_1
theorem dksX5_stand_0 : cX5_stand.data.toList.drop 0 = dktX5_stand_0 := by decide +kernel
theorem dksX5_stand_1 : cX5_stand.data.toList.drop 24 = dktX5_stand_1 := dk_seg dksX5_stand_0 24 rfl rfl
theorem dksX5_stand_2 : cX5_stand.data.toList.drop 48 = dktX5_stand_2 := dk_seg dksX5_stand_1 24 rfl rfl
theorem dX5_stand_0 : decode cX5_stand 0 = .ok (.aload_n 0, 1) := dk_42 (dk_at dksX5_stand_0 0 rfl rfl)
theorem dX5_stand_1 : decode cX5_stand 1 = .ok (.iconst 0, 1) := dk_3 (dk_at dksX5_stand_0 1 rfl rfl)
theorem dX5_stand_2 : decode cX5_stand 2 = .ok (.putfield 78, 3) := dk_181 0 78 (dk_at dksX5_stand_0 2 rfl rfl)
theorem dX5_stand_5 : decode cX5_stand 5 = .ok (.iconst 0, 1) := dk_3 (dk_at dksX5_stand_0 5 rfl rfl)
theorem dX5_stand_6 : decode cX5_stand 6 = .ok (.istore_n 1, 1) := dk_60 (dk_at dksX5_stand_0 6 rfl rfl)
theorem dX5_stand_7 : decode cX5_stand 7 = .ok (.iconst 0, 1) := dk_3 (dk_at dksX5_stand_0 7 rfl rfl)
theorem dX5_stand_8 : decode cX5_stand 8 = .ok (.istore_n 2, 1) := dk_61 (dk_at dksX5_stand_0 8 rfl rfl)
theorem dX5_stand_9 : decode cX5_stand 9 = .ok (.iload_n 2, 1) := dk_28 (dk_at dksX5_stand_0 9 rfl rfl)
theorem dX5_stand_10 : decode cX5_stand 10 = .ok (.aload_n 0, 1) := dk_42 (dk_at dksX5_stand_0 10 rfl rfl)
theorem dX5_stand_11 : decode cX5_stand 11 = .ok (.getfield 96, 3) := dk_180 0 96 (dk_at dksX5_stand_0 11 rfl rfl)
theorem dX5_stand_14 : decode cX5_stand 14 = .ok (.if_icmp .ge 22, 3) := dk_162 0 22 (dk_at dksX5_stand_0 14 rfl rfl)
theorem dX5_stand_17 : decode cX5_stand 17 = .ok (.iload_n 1, 1) := dk_27 (dk_at dksX5_stand_0 17 rfl rfl)
theorem dX5_stand_18 : decode cX5_stand 18 = .ok (.aload_n 0, 1) := dk_42 (dk_at dksX5_stand_0 18 rfl rfl)
theorem dX5_stand_19 : decode cX5_stand 19 = .ok (.getfield 22, 3) := dk_180 0 22 (dk_at dksX5_stand_0 19 rfl rfl)
theorem dX5_stand_22 : decode cX5_stand 22 = .ok (.iload_n 2, 1) := dk_28 (dk_at dksX5_stand_0 22 rfl rfl)
theorem dX5_stand_23 : decode cX5_stand 23 = .ok (.iaload, 1) := dk_46 (dk_at dksX5_stand_0 23 rfl rfl)
theorem dX5_stand_24 : decode cX5_stand 24 = .ok (.iconst 3, 1) := dk_6 (dk_at dksX5_stand_1 0 rfl rfl)
theorem dX5_stand_25 : decode cX5_stand 25 = .ok (.iload_n 2, 1) := dk_28 (dk_at dksX5_stand_1 1 rfl rfl)
theorem dX5_stand_26 : decode cX5_stand 26 = .ok (.imul, 1) := dk_104 (dk_at dksX5_stand_1 2 rfl rfl)
theorem dX5_stand_27 : decode cX5_stand 27 = .ok (.ishl, 1) := dk_120 (dk_at dksX5_stand_1 3 rfl rfl)
theorem dX5_stand_28 : decode cX5_stand 28 = .ok (.ior, 1) := dk_128 (dk_at dksX5_stand_1 4 rfl rfl)
theorem dX5_stand_29 : decode cX5_stand 29 = .ok (.istore_n 1, 1) := dk_60 (dk_at dksX5_stand_1 5 rfl rfl)
theorem dX5_stand_30 : decode cX5_stand 30 = .ok (.iinc 2 1, 3) := dk_132 2 1 (dk_at dksX5_stand_1 6 rfl rfl)
theorem dX5_stand_33 : decode cX5_stand 33 = .ok (.goto (-24), 3) := dk_167 255 232 (dk_at dksX5_stand_1 9 rfl rfl)
theorem dX5_stand_36 : decode cX5_stand 36 = .ok (.aload_n 0, 1) := dk_42 (dk_at dksX5_stand_1 12 rfl rfl)
theorem dX5_stand_37 : decode cX5_stand 37 = .ok (.getfield 96, 3) := dk_180 0 96 (dk_at dksX5_stand_1 13 rfl rfl)
theorem dX5_stand_40 : decode cX5_stand 40 = .ok (.ifCond .ne 8, 3) := dk_154 0 8 (dk_at dksX5_stand_1 16 rfl rfl)
theorem dX5_stand_43 : decode cX5_stand 43 = .ok (.bipush (-2), 2) := dk_16 254 (dk_at dksX5_stand_1 19 rfl rfl)
theorem dX5_stand_45 : decode cX5_stand 45 = .ok (.goto 4, 3) := dk_167 0 4 (dk_at dksX5_stand_1 21 rfl rfl)
theorem dX5_stand_48 : decode cX5_stand 48 = .ok (.iload_n 1, 1) := dk_27 (dk_at dksX5_stand_2 0 rfl rfl)
theorem dX5_stand_49 : decode cX5_stand 49 = .ok (.ireturn, 1) := dk_172 (dk_at dksX5_stand_2 1 rfl rfl)
abbrev cX5_told : ByteArray := prog_13_method_33_code
def yX5_told : MethodName := ⟨RX5, "told", "(II)I"⟩
def dkwX5_told_3 : List UInt8 := [46, 167, 0, 9, 42, 180, 0, 37, 27, 46, 172]
abbrev dktX5_told_3 : List UInt8 := dkwX5_told_3 ++ []
def dkwX5_told_2 : List UInt8 := [28, 4, 160, 0, 12, 42, 180, 0, 31, 27, 46, 167, 0, 23, 28, 5, 160, 0, 12, 42, 180, 0, 34, 27]
abbrev dktX5_told_2 : List UInt8 := dkwX5_told_2 ++ dktX5_told_3
def dkwX5_told_1 : List UInt8 := [20, 0, 155, 184, 0, 85, 154, 0, 5, 2, 172, 28, 154, 0, 12, 42, 180, 0, 28, 27, 46, 167, 0, 37]
abbrev dktX5_told_1 : List UInt8 := dkwX5_told_1 ++ dktX5_told_2
def dkwX5_told_0 : List UInt8 := [42, 3, 181, 0, 78, 27, 133, 9, 42, 180, 0, 165, 4, 100, 133, 184, 0, 85, 153, 0, 15, 28, 133, 9]
abbrev dktX5_told_0 : List UInt8 := dkwX5_told_0 ++ dktX5_told_1
theorem dksX5_told_0 : cX5_told.data.toList.drop 0 = dktX5_told_0 := by decide +kernel
theorem dksX5_told_1 : cX5_told.data.toList.drop 24 = dktX5_told_1 := dk_seg dksX5_told_0 24 rfl rfl
theorem dksX5_told_2 : cX5_told.data.toList.drop 48 = dktX5_told_2 := dk_seg dksX5_told_1 24 rfl rfl
theorem dksX5_told_3 : cX5_told.data.toList.drop 72 = dktX5_told_3 := dk_seg dksX5_told_2 24 rfl rfl
theorem dX5_told_0 : decode cX5_told 0 = .ok (.aload_n 0, 1) := dk_42 (dk_at dksX5_told_0 0 rfl rfl)
theorem dX5_told_1 : decode cX5_told 1 = .ok (.iconst 0, 1) := dk_3 (dk_at dksX5_told_0 1 rfl rfl)
theorem dX5_told_2 : decode cX5_told 2 = .ok (.putfield 78, 3) := dk_181 0 78 (dk_at dksX5_told_0 2 rfl rfl)
theorem dX5_told_5 : decode cX5_told 5 = .ok (.iload_n 1, 1) := dk_27 (dk_at dksX5_told_0 5 rfl rfl)
theorem dX5_told_6 : decode cX5_told 6 = .ok (.i2l, 1) := dk_133 (dk_at dksX5_told_0 6 rfl rfl)
theorem dX5_told_7 : decode cX5_told 7 = .ok (.lconst 0, 1) := dk_9 (dk_at dksX5_told_0 7 rfl rfl)
theorem dX5_told_8 : decode cX5_told 8 = .ok (.aload_n 0, 1) := dk_42 (dk_at dksX5_told_0 8 rfl rfl)
theorem dX5_told_9 : decode cX5_told 9 = .ok (.getfield 165, 3) := dk_180 0 165 (dk_at dksX5_told_0 9 rfl rfl)
theorem dX5_told_12 : decode cX5_told 12 = .ok (.iconst 1, 1) := dk_4 (dk_at dksX5_told_0 12 rfl rfl)
theorem dX5_told_13 : decode cX5_told 13 = .ok (.isub, 1) := dk_100 (dk_at dksX5_told_0 13 rfl rfl)
theorem dX5_told_14 : decode cX5_told 14 = .ok (.i2l, 1) := dk_133 (dk_at dksX5_told_0 14 rfl rfl)
theorem dX5_told_15 : decode cX5_told 15 = .ok (.invokestatic 85, 3) := dk_184 0 85 (dk_at dksX5_told_0 15 rfl rfl)
theorem dX5_told_18 : decode cX5_told 18 = .ok (.ifCond .eq 15, 3) := dk_153 0 15 (dk_at dksX5_told_0 18 rfl rfl)
theorem dX5_told_21 : decode cX5_told 21 = .ok (.iload_n 2, 1) := dk_28 (dk_at dksX5_told_0 21 rfl rfl)
theorem dX5_told_22 : decode cX5_told 22 = .ok (.i2l, 1) := dk_133 (dk_at dksX5_told_0 22 rfl rfl)
theorem dX5_told_23 : decode cX5_told 23 = .ok (.lconst 0, 1) := dk_9 (dk_at dksX5_told_0 23 rfl rfl)
theorem dX5_told_24 : decode cX5_told 24 = .ok (.ldc2_w 155, 3) := dk_20 0 155 (dk_at dksX5_told_1 0 rfl rfl)
theorem dX5_told_27 : decode cX5_told 27 = .ok (.invokestatic 85, 3) := dk_184 0 85 (dk_at dksX5_told_1 3 rfl rfl)
theorem dX5_told_30 : decode cX5_told 30 = .ok (.ifCond .ne 5, 3) := dk_154 0 5 (dk_at dksX5_told_1 6 rfl rfl)
theorem dX5_told_33 : decode cX5_told 33 = .ok (.iconst (-1), 1) := dk_2 (dk_at dksX5_told_1 9 rfl rfl)
theorem dX5_told_34 : decode cX5_told 34 = .ok (.ireturn, 1) := dk_172 (dk_at dksX5_told_1 10 rfl rfl)
theorem dX5_told_35 : decode cX5_told 35 = .ok (.iload_n 2, 1) := dk_28 (dk_at dksX5_told_1 11 rfl rfl)
theorem dX5_told_36 : decode cX5_told 36 = .ok (.ifCond .ne 12, 3) := dk_154 0 12 (dk_at dksX5_told_1 12 rfl rfl)
theorem dX5_told_39 : decode cX5_told 39 = .ok (.aload_n 0, 1) := dk_42 (dk_at dksX5_told_1 15 rfl rfl)
theorem dX5_told_40 : decode cX5_told 40 = .ok (.getfield 28, 3) := dk_180 0 28 (dk_at dksX5_told_1 16 rfl rfl)
theorem dX5_told_43 : decode cX5_told 43 = .ok (.iload_n 1, 1) := dk_27 (dk_at dksX5_told_1 19 rfl rfl)
theorem dX5_told_44 : decode cX5_told 44 = .ok (.iaload, 1) := dk_46 (dk_at dksX5_told_1 20 rfl rfl)
theorem dX5_told_45 : decode cX5_told 45 = .ok (.goto 37, 3) := dk_167 0 37 (dk_at dksX5_told_1 21 rfl rfl)
theorem dX5_told_48 : decode cX5_told 48 = .ok (.iload_n 2, 1) := dk_28 (dk_at dksX5_told_2 0 rfl rfl)
theorem dX5_told_49 : decode cX5_told 49 = .ok (.iconst 1, 1) := dk_4 (dk_at dksX5_told_2 1 rfl rfl)
theorem dX5_told_50 : decode cX5_told 50 = .ok (.if_icmp .ne 12, 3) := dk_160 0 12 (dk_at dksX5_told_2 2 rfl rfl)
theorem dX5_told_53 : decode cX5_told 53 = .ok (.aload_n 0, 1) := dk_42 (dk_at dksX5_told_2 5 rfl rfl)
theorem dX5_told_54 : decode cX5_told 54 = .ok (.getfield 31, 3) := dk_180 0 31 (dk_at dksX5_told_2 6 rfl rfl)
theorem dX5_told_57 : decode cX5_told 57 = .ok (.iload_n 1, 1) := dk_27 (dk_at dksX5_told_2 9 rfl rfl)
theorem dX5_told_58 : decode cX5_told 58 = .ok (.iaload, 1) := dk_46 (dk_at dksX5_told_2 10 rfl rfl)
theorem dX5_told_59 : decode cX5_told 59 = .ok (.goto 23, 3) := dk_167 0 23 (dk_at dksX5_told_2 11 rfl rfl)
theorem dX5_told_62 : decode cX5_told 62 = .ok (.iload_n 2, 1) := dk_28 (dk_at dksX5_told_2 14 rfl rfl)
theorem dX5_told_63 : decode cX5_told 63 = .ok (.iconst 2, 1) := dk_5 (dk_at dksX5_told_2 15 rfl rfl)
theorem dX5_told_64 : decode cX5_told 64 = .ok (.if_icmp .ne 12, 3) := dk_160 0 12 (dk_at dksX5_told_2 16 rfl rfl)
theorem dX5_told_67 : decode cX5_told 67 = .ok (.aload_n 0, 1) := dk_42 (dk_at dksX5_told_2 19 rfl rfl)
theorem dX5_told_68 : decode cX5_told 68 = .ok (.getfield 34, 3) := dk_180 0 34 (dk_at dksX5_told_2 20 rfl rfl)
theorem dX5_told_71 : decode cX5_told 71 = .ok (.iload_n 1, 1) := dk_27 (dk_at dksX5_told_2 23 rfl rfl)
theorem dX5_told_72 : decode cX5_told 72 = .ok (.iaload, 1) := dk_46 (dk_at dksX5_told_3 0 rfl rfl)
theorem dX5_told_73 : decode cX5_told 73 = .ok (.goto 9, 3) := dk_167 0 9 (dk_at dksX5_told_3 1 rfl rfl)
theorem dX5_told_76 : decode cX5_told 76 = .ok (.aload_n 0, 1) := dk_42 (dk_at dksX5_told_3 4 rfl rfl)
theorem dX5_told_77 : decode cX5_told 77 = .ok (.getfield 37, 3) := dk_180 0 37 (dk_at dksX5_told_3 5 rfl rfl)
theorem dX5_told_80 : decode cX5_told 80 = .ok (.iload_n 1, 1) := dk_27 (dk_at dksX5_told_3 8 rfl rfl)
theorem dX5_told_81 : decode cX5_told 81 = .ok (.iaload, 1) := dk_46 (dk_at dksX5_told_3 9 rfl rfl)
theorem dX5_told_82 : decode cX5_told 82 = .ok (.ireturn, 1) := dk_172 (dk_at dksX5_told_3 10 rfl rfl)
abbrev cX5_cost : ByteArray := prog_13_method_35_code
def yX5_cost : MethodName := ⟨RX5, "cost", "(I)I"⟩
def dkwX5_cost_2 : List UInt8 := [46, 167, 0, 4, 2, 172]
abbrev dktX5_cost_2 : List UInt8 := dkwX5_cost_2 ++ []
def dkwX5_cost_1 : List UInt8 := [167, 0, 29, 27, 133, 9, 42, 180, 0, 96, 4, 100, 133, 184, 0, 85, 153, 0, 12, 42, 180, 0, 25, 27]
abbrev dktX5_cost_1 : List UInt8 := dkwX5_cost_1 ++ dktX5_cost_2
def dkwX5_cost_0 : List UInt8 := [42, 3, 181, 0, 78, 42, 180, 0, 96, 154, 0, 6, 16, 254, 172, 27, 2, 160, 0, 10, 42, 182, 0, 183]
abbrev dktX5_cost_0 : List UInt8 := dkwX5_cost_0 ++ dktX5_cost_1
theorem dksX5_cost_0 : cX5_cost.data.toList.drop 0 = dktX5_cost_0 := by decide +kernel
theorem dksX5_cost_1 : cX5_cost.data.toList.drop 24 = dktX5_cost_1 := dk_seg dksX5_cost_0 24 rfl rfl
theorem dksX5_cost_2 : cX5_cost.data.toList.drop 48 = dktX5_cost_2 := dk_seg dksX5_cost_1 24 rfl rfl
theorem dX5_cost_0 : decode cX5_cost 0 = .ok (.aload_n 0, 1) := dk_42 (dk_at dksX5_cost_0 0 rfl rfl)
theorem dX5_cost_1 : decode cX5_cost 1 = .ok (.iconst 0, 1) := dk_3 (dk_at dksX5_cost_0 1 rfl rfl)
theorem dX5_cost_2 : decode cX5_cost 2 = .ok (.putfield 78, 3) := dk_181 0 78 (dk_at dksX5_cost_0 2 rfl rfl)
theorem dX5_cost_5 : decode cX5_cost 5 = .ok (.aload_n 0, 1) := dk_42 (dk_at dksX5_cost_0 5 rfl rfl)
theorem dX5_cost_6 : decode cX5_cost 6 = .ok (.getfield 96, 3) := dk_180 0 96 (dk_at dksX5_cost_0 6 rfl rfl)
theorem dX5_cost_9 : decode cX5_cost 9 = .ok (.ifCond .ne 6, 3) := dk_154 0 6 (dk_at dksX5_cost_0 9 rfl rfl)
theorem dX5_cost_12 : decode cX5_cost 12 = .ok (.bipush (-2), 2) := dk_16 254 (dk_at dksX5_cost_0 12 rfl rfl)
theorem dX5_cost_14 : decode cX5_cost 14 = .ok (.ireturn, 1) := dk_172 (dk_at dksX5_cost_0 14 rfl rfl)
theorem dX5_cost_15 : decode cX5_cost 15 = .ok (.iload_n 1, 1) := dk_27 (dk_at dksX5_cost_0 15 rfl rfl)
theorem dX5_cost_16 : decode cX5_cost 16 = .ok (.iconst (-1), 1) := dk_2 (dk_at dksX5_cost_0 16 rfl rfl)
theorem dX5_cost_17 : decode cX5_cost 17 = .ok (.if_icmp .ne 10, 3) := dk_160 0 10 (dk_at dksX5_cost_0 17 rfl rfl)
theorem dX5_cost_20 : decode cX5_cost 20 = .ok (.aload_n 0, 1) := dk_42 (dk_at dksX5_cost_0 20 rfl rfl)
theorem dX5_cost_21 : decode cX5_cost 21 = .ok (.invokevirtual 183, 3) := dk_182 0 183 (dk_at dksX5_cost_0 21 rfl rfl)
theorem dX5_cost_24 : decode cX5_cost 24 = .ok (.goto 29, 3) := dk_167 0 29 (dk_at dksX5_cost_1 0 rfl rfl)
theorem dX5_cost_27 : decode cX5_cost 27 = .ok (.iload_n 1, 1) := dk_27 (dk_at dksX5_cost_1 3 rfl rfl)
theorem dX5_cost_28 : decode cX5_cost 28 = .ok (.i2l, 1) := dk_133 (dk_at dksX5_cost_1 4 rfl rfl)
theorem dX5_cost_29 : decode cX5_cost 29 = .ok (.lconst 0, 1) := dk_9 (dk_at dksX5_cost_1 5 rfl rfl)
theorem dX5_cost_30 : decode cX5_cost 30 = .ok (.aload_n 0, 1) := dk_42 (dk_at dksX5_cost_1 6 rfl rfl)
theorem dX5_cost_31 : decode cX5_cost 31 = .ok (.getfield 96, 3) := dk_180 0 96 (dk_at dksX5_cost_1 7 rfl rfl)
theorem dX5_cost_34 : decode cX5_cost 34 = .ok (.iconst 1, 1) := dk_4 (dk_at dksX5_cost_1 10 rfl rfl)
theorem dX5_cost_35 : decode cX5_cost 35 = .ok (.isub, 1) := dk_100 (dk_at dksX5_cost_1 11 rfl rfl)
theorem dX5_cost_36 : decode cX5_cost 36 = .ok (.i2l, 1) := dk_133 (dk_at dksX5_cost_1 12 rfl rfl)
theorem dX5_cost_37 : decode cX5_cost 37 = .ok (.invokestatic 85, 3) := dk_184 0 85 (dk_at dksX5_cost_1 13 rfl rfl)
theorem dX5_cost_40 : decode cX5_cost 40 = .ok (.ifCond .eq 12, 3) := dk_153 0 12 (dk_at dksX5_cost_1 16 rfl rfl)
theorem dX5_cost_43 : decode cX5_cost 43 = .ok (.aload_n 0, 1) := dk_42 (dk_at dksX5_cost_1 19 rfl rfl)
theorem dX5_cost_44 : decode cX5_cost 44 = .ok (.getfield 25, 3) := dk_180 0 25 (dk_at dksX5_cost_1 20 rfl rfl)
theorem dX5_cost_47 : decode cX5_cost 47 = .ok (.iload_n 1, 1) := dk_27 (dk_at dksX5_cost_1 23 rfl rfl)
theorem dX5_cost_48 : decode cX5_cost 48 = .ok (.iaload, 1) := dk_46 (dk_at dksX5_cost_2 0 rfl rfl)
theorem dX5_cost_49 : decode cX5_cost 49 = .ok (.goto 4, 3) := dk_167 0 4 (dk_at dksX5_cost_2 1 rfl rfl)
theorem dX5_cost_52 : decode cX5_cost 52 = .ok (.iconst (-1), 1) := dk_2 (dk_at dksX5_cost_2 4 rfl rfl)
theorem dX5_cost_53 : decode cX5_cost 53 = .ok (.ireturn, 1) := dk_172 (dk_at dksX5_cost_2 5 rfl rfl)
abbrev cX5_costOf : ByteArray := prog_13_method_34_code
def yX5_costOf : MethodName := ⟨RX5, "costOf", "()I"⟩
def dkwX5_costOf_1 : List UInt8 := [167, 255, 236, 27, 172]
abbrev dktX5_costOf_1 : List UInt8 := dkwX5_costOf_1 ++ []
def dkwX5_costOf_0 : List UInt8 := [3, 60, 3, 61, 28, 42, 180, 0, 96, 162, 0, 18, 27, 42, 180, 0, 25, 28, 46, 96, 60, 132, 2, 1]
abbrev dktX5_costOf_0 : List UInt8 := dkwX5_costOf_0 ++ dktX5_costOf_1
theorem dksX5_costOf_0 : cX5_costOf.data.toList.drop 0 = dktX5_costOf_0 := by decide +kernel
theorem dksX5_costOf_1 : cX5_costOf.data.toList.drop 24 = dktX5_costOf_1 := dk_seg dksX5_costOf_0 24 rfl rfl
theorem dX5_costOf_0 : decode cX5_costOf 0 = .ok (.iconst 0, 1) := dk_3 (dk_at dksX5_costOf_0 0 rfl rfl)
theorem dX5_costOf_1 : decode cX5_costOf 1 = .ok (.istore_n 1, 1) := dk_60 (dk_at dksX5_costOf_0 1 rfl rfl)
theorem dX5_costOf_2 : decode cX5_costOf 2 = .ok (.iconst 0, 1) := dk_3 (dk_at dksX5_costOf_0 2 rfl rfl)
theorem dX5_costOf_3 : decode cX5_costOf 3 = .ok (.istore_n 2, 1) := dk_61 (dk_at dksX5_costOf_0 3 rfl rfl)
theorem dX5_costOf_4 : decode cX5_costOf 4 = .ok (.iload_n 2, 1) := dk_28 (dk_at dksX5_costOf_0 4 rfl rfl)
theorem dX5_costOf_5 : decode cX5_costOf 5 = .ok (.aload_n 0, 1) := dk_42 (dk_at dksX5_costOf_0 5 rfl rfl)
theorem dX5_costOf_6 : decode cX5_costOf 6 = .ok (.getfield 96, 3) := dk_180 0 96 (dk_at dksX5_costOf_0 6 rfl rfl)
theorem dX5_costOf_9 : decode cX5_costOf 9 = .ok (.if_icmp .ge 18, 3) := dk_162 0 18 (dk_at dksX5_costOf_0 9 rfl rfl)
theorem dX5_costOf_12 : decode cX5_costOf 12 = .ok (.iload_n 1, 1) := dk_27 (dk_at dksX5_costOf_0 12 rfl rfl)
theorem dX5_costOf_13 : decode cX5_costOf 13 = .ok (.aload_n 0, 1) := dk_42 (dk_at dksX5_costOf_0 13 rfl rfl)
theorem dX5_costOf_14 : decode cX5_costOf 14 = .ok (.getfield 25, 3) := dk_180 0 25 (dk_at dksX5_costOf_0 14 rfl rfl)
theorem dX5_costOf_17 : decode cX5_costOf 17 = .ok (.iload_n 2, 1) := dk_28 (dk_at dksX5_costOf_0 17 rfl rfl)
theorem dX5_costOf_18 : decode cX5_costOf 18 = .ok (.iaload, 1) := dk_46 (dk_at dksX5_costOf_0 18 rfl rfl)
theorem dX5_costOf_19 : decode cX5_costOf 19 = .ok (.iadd, 1) := dk_96 (dk_at dksX5_costOf_0 19 rfl rfl)
theorem dX5_costOf_20 : decode cX5_costOf 20 = .ok (.istore_n 1, 1) := dk_60 (dk_at dksX5_costOf_0 20 rfl rfl)
theorem dX5_costOf_21 : decode cX5_costOf 21 = .ok (.iinc 2 1, 3) := dk_132 2 1 (dk_at dksX5_costOf_0 21 rfl rfl)
theorem dX5_costOf_24 : decode cX5_costOf 24 = .ok (.goto (-20), 3) := dk_167 255 236 (dk_at dksX5_costOf_1 0 rfl rfl)
theorem dX5_costOf_27 : decode cX5_costOf 27 = .ok (.iload_n 1, 1) := dk_27 (dk_at dksX5_costOf_1 3 rfl rfl)
theorem dX5_costOf_28 : decode cX5_costOf 28 = .ok (.ireturn, 1) := dk_172 (dk_at dksX5_costOf_1 4 rfl rfl)
abbrev cX5_moves : ByteArray := prog_13_method_36_code
def yX5_moves : MethodName := ⟨RX5, "moves", "(II)I"⟩
def dkwX5_moves_2 : List UInt8 := [2, 172]
abbrev dktX5_moves_2 : List UInt8 := dkwX5_moves_2 ++ []
def dkwX5_moves_1 : List UInt8 := [153, 0, 24, 42, 42, 180, 0, 96, 28, 182, 0, 157, 153, 0, 12, 42, 27, 28, 182, 0, 120, 167, 0, 4]
abbrev dktX5_moves_1 : List UInt8 := dkwX5_moves_1 ++ dktX5_moves_2
def dkwX5_moves_0 : List UInt8 := [42, 3, 181, 0, 78, 42, 180, 0, 96, 154, 0, 6, 16, 254, 172, 42, 42, 180, 0, 96, 27, 182, 0, 157]
abbrev dktX5_moves_0 : List UInt8 := dkwX5_moves_0 ++ dktX5_moves_1
theorem dksX5_moves_0 : cX5_moves.data.toList.drop 0 = dktX5_moves_0 := by decide +kernel
theorem dksX5_moves_1 : cX5_moves.data.toList.drop 24 = dktX5_moves_1 := dk_seg dksX5_moves_0 24 rfl rfl
theorem dksX5_moves_2 : cX5_moves.data.toList.drop 48 = dktX5_moves_2 := dk_seg dksX5_moves_1 24 rfl rfl
theorem dX5_moves_0 : decode cX5_moves 0 = .ok (.aload_n 0, 1) := dk_42 (dk_at dksX5_moves_0 0 rfl rfl)
theorem dX5_moves_1 : decode cX5_moves 1 = .ok (.iconst 0, 1) := dk_3 (dk_at dksX5_moves_0 1 rfl rfl)
theorem dX5_moves_2 : decode cX5_moves 2 = .ok (.putfield 78, 3) := dk_181 0 78 (dk_at dksX5_moves_0 2 rfl rfl)
theorem dX5_moves_5 : decode cX5_moves 5 = .ok (.aload_n 0, 1) := dk_42 (dk_at dksX5_moves_0 5 rfl rfl)
theorem dX5_moves_6 : decode cX5_moves 6 = .ok (.getfield 96, 3) := dk_180 0 96 (dk_at dksX5_moves_0 6 rfl rfl)
theorem dX5_moves_9 : decode cX5_moves 9 = .ok (.ifCond .ne 6, 3) := dk_154 0 6 (dk_at dksX5_moves_0 9 rfl rfl)
theorem dX5_moves_12 : decode cX5_moves 12 = .ok (.bipush (-2), 2) := dk_16 254 (dk_at dksX5_moves_0 12 rfl rfl)
theorem dX5_moves_14 : decode cX5_moves 14 = .ok (.ireturn, 1) := dk_172 (dk_at dksX5_moves_0 14 rfl rfl)
theorem dX5_moves_15 : decode cX5_moves 15 = .ok (.aload_n 0, 1) := dk_42 (dk_at dksX5_moves_0 15 rfl rfl)
theorem dX5_moves_16 : decode cX5_moves 16 = .ok (.aload_n 0, 1) := dk_42 (dk_at dksX5_moves_0 16 rfl rfl)
theorem dX5_moves_17 : decode cX5_moves 17 = .ok (.getfield 96, 3) := dk_180 0 96 (dk_at dksX5_moves_0 17 rfl rfl)
theorem dX5_moves_20 : decode cX5_moves 20 = .ok (.iload_n 1, 1) := dk_27 (dk_at dksX5_moves_0 20 rfl rfl)
theorem dX5_moves_21 : decode cX5_moves 21 = .ok (.invokevirtual 157, 3) := dk_182 0 157 (dk_at dksX5_moves_0 21 rfl rfl)
theorem dX5_moves_24 : decode cX5_moves 24 = .ok (.ifCond .eq 24, 3) := dk_153 0 24 (dk_at dksX5_moves_1 0 rfl rfl)
theorem dX5_moves_27 : decode cX5_moves 27 = .ok (.aload_n 0, 1) := dk_42 (dk_at dksX5_moves_1 3 rfl rfl)
theorem dX5_moves_28 : decode cX5_moves 28 = .ok (.aload_n 0, 1) := dk_42 (dk_at dksX5_moves_1 4 rfl rfl)
theorem dX5_moves_29 : decode cX5_moves 29 = .ok (.getfield 96, 3) := dk_180 0 96 (dk_at dksX5_moves_1 5 rfl rfl)
theorem dX5_moves_32 : decode cX5_moves 32 = .ok (.iload_n 2, 1) := dk_28 (dk_at dksX5_moves_1 8 rfl rfl)
theorem dX5_moves_33 : decode cX5_moves 33 = .ok (.invokevirtual 157, 3) := dk_182 0 157 (dk_at dksX5_moves_1 9 rfl rfl)
theorem dX5_moves_36 : decode cX5_moves 36 = .ok (.ifCond .eq 12, 3) := dk_153 0 12 (dk_at dksX5_moves_1 12 rfl rfl)
theorem dX5_moves_39 : decode cX5_moves 39 = .ok (.aload_n 0, 1) := dk_42 (dk_at dksX5_moves_1 15 rfl rfl)
theorem dX5_moves_40 : decode cX5_moves 40 = .ok (.iload_n 1, 1) := dk_27 (dk_at dksX5_moves_1 16 rfl rfl)
theorem dX5_moves_41 : decode cX5_moves 41 = .ok (.iload_n 2, 1) := dk_28 (dk_at dksX5_moves_1 17 rfl rfl)
theorem dX5_moves_42 : decode cX5_moves 42 = .ok (.invokevirtual 120, 3) := dk_182 0 120 (dk_at dksX5_moves_1 18 rfl rfl)
theorem dX5_moves_45 : decode cX5_moves 45 = .ok (.goto 4, 3) := dk_167 0 4 (dk_at dksX5_moves_1 21 rfl rfl)
theorem dX5_moves_48 : decode cX5_moves 48 = .ok (.iconst (-1), 1) := dk_2 (dk_at dksX5_moves_2 0 rfl rfl)
theorem dX5_moves_49 : decode cX5_moves 49 = .ok (.ireturn, 1) := dk_172 (dk_at dksX5_moves_2 1 rfl rfl)
abbrev cX5_work : ByteArray := prog_13_method_37_code
def yX5_work : MethodName := ⟨RX5, "work", "(II)I"⟩
def dkwX5_work_2 : List UInt8 := [17, 2, 0, 27, 104, 28, 182, 0, 151, 167, 0, 4, 2, 172]
abbrev dktX5_work_2 : List UInt8 := dkwX5_work_2 ++ []
def dkwX5_work_1 : List UInt8 := [184, 0, 85, 153, 0, 32, 42, 42, 180, 0, 96, 28, 182, 0, 157, 153, 0, 20, 42, 42, 180, 0, 46]
abbrev dktX5_work_1 : List UInt8 := dkwX5_work_1 ++ dktX5_work_2
def dkwX5_work_0 : List UInt8 := [42, 3, 181, 0, 78, 42, 180, 0, 96, 154, 0, 6, 16, 254, 172, 27, 133, 9, 42, 180, 0, 165, 133]
abbrev dktX5_work_0 : List UInt8 := dkwX5_work_0 ++ dktX5_work_1
theorem dksX5_work_0 : cX5_work.data.toList.drop 0 = dktX5_work_0 := by decide +kernel
theorem dksX5_work_1 : cX5_work.data.toList.drop 23 = dktX5_work_1 := dk_seg dksX5_work_0 23 rfl rfl
theorem dksX5_work_2 : cX5_work.data.toList.drop 46 = dktX5_work_2 := dk_seg dksX5_work_1 23 rfl rfl
theorem dX5_work_0 : decode cX5_work 0 = .ok (.aload_n 0, 1) := dk_42 (dk_at dksX5_work_0 0 rfl rfl)
theorem dX5_work_1 : decode cX5_work 1 = .ok (.iconst 0, 1) := dk_3 (dk_at dksX5_work_0 1 rfl rfl)
theorem dX5_work_2 : decode cX5_work 2 = .ok (.putfield 78, 3) := dk_181 0 78 (dk_at dksX5_work_0 2 rfl rfl)
theorem dX5_work_5 : decode cX5_work 5 = .ok (.aload_n 0, 1) := dk_42 (dk_at dksX5_work_0 5 rfl rfl)
theorem dX5_work_6 : decode cX5_work 6 = .ok (.getfield 96, 3) := dk_180 0 96 (dk_at dksX5_work_0 6 rfl rfl)
theorem dX5_work_9 : decode cX5_work 9 = .ok (.ifCond .ne 6, 3) := dk_154 0 6 (dk_at dksX5_work_0 9 rfl rfl)
theorem dX5_work_12 : decode cX5_work 12 = .ok (.bipush (-2), 2) := dk_16 254 (dk_at dksX5_work_0 12 rfl rfl)
theorem dX5_work_14 : decode cX5_work 14 = .ok (.ireturn, 1) := dk_172 (dk_at dksX5_work_0 14 rfl rfl)
theorem dX5_work_15 : decode cX5_work 15 = .ok (.iload_n 1, 1) := dk_27 (dk_at dksX5_work_0 15 rfl rfl)
theorem dX5_work_16 : decode cX5_work 16 = .ok (.i2l, 1) := dk_133 (dk_at dksX5_work_0 16 rfl rfl)
theorem dX5_work_17 : decode cX5_work 17 = .ok (.lconst 0, 1) := dk_9 (dk_at dksX5_work_0 17 rfl rfl)
theorem dX5_work_18 : decode cX5_work 18 = .ok (.aload_n 0, 1) := dk_42 (dk_at dksX5_work_0 18 rfl rfl)
theorem dX5_work_19 : decode cX5_work 19 = .ok (.getfield 165, 3) := dk_180 0 165 (dk_at dksX5_work_0 19 rfl rfl)
theorem dX5_work_22 : decode cX5_work 22 = .ok (.i2l, 1) := dk_133 (dk_at dksX5_work_0 22 rfl rfl)
theorem dX5_work_23 : decode cX5_work 23 = .ok (.invokestatic 85, 3) := dk_184 0 85 (dk_at dksX5_work_1 0 rfl rfl)
theorem dX5_work_26 : decode cX5_work 26 = .ok (.ifCond .eq 32, 3) := dk_153 0 32 (dk_at dksX5_work_1 3 rfl rfl)
theorem dX5_work_29 : decode cX5_work 29 = .ok (.aload_n 0, 1) := dk_42 (dk_at dksX5_work_1 6 rfl rfl)
theorem dX5_work_30 : decode cX5_work 30 = .ok (.aload_n 0, 1) := dk_42 (dk_at dksX5_work_1 7 rfl rfl)
theorem dX5_work_31 : decode cX5_work 31 = .ok (.getfield 96, 3) := dk_180 0 96 (dk_at dksX5_work_1 8 rfl rfl)
theorem dX5_work_34 : decode cX5_work 34 = .ok (.iload_n 2, 1) := dk_28 (dk_at dksX5_work_1 11 rfl rfl)
theorem dX5_work_35 : decode cX5_work 35 = .ok (.invokevirtual 157, 3) := dk_182 0 157 (dk_at dksX5_work_1 12 rfl rfl)
theorem dX5_work_38 : decode cX5_work 38 = .ok (.ifCond .eq 20, 3) := dk_153 0 20 (dk_at dksX5_work_1 15 rfl rfl)
theorem dX5_work_41 : decode cX5_work 41 = .ok (.aload_n 0, 1) := dk_42 (dk_at dksX5_work_1 18 rfl rfl)
theorem dX5_work_42 : decode cX5_work 42 = .ok (.aload_n 0, 1) := dk_42 (dk_at dksX5_work_1 19 rfl rfl)
theorem dX5_work_43 : decode cX5_work 43 = .ok (.getfield 46, 3) := dk_180 0 46 (dk_at dksX5_work_1 20 rfl rfl)
theorem dX5_work_46 : decode cX5_work 46 = .ok (.sipush 512, 3) := dk_17 2 0 (dk_at dksX5_work_2 0 rfl rfl)
theorem dX5_work_49 : decode cX5_work 49 = .ok (.iload_n 1, 1) := dk_27 (dk_at dksX5_work_2 3 rfl rfl)
theorem dX5_work_50 : decode cX5_work 50 = .ok (.imul, 1) := dk_104 (dk_at dksX5_work_2 4 rfl rfl)
theorem dX5_work_51 : decode cX5_work 51 = .ok (.iload_n 2, 1) := dk_28 (dk_at dksX5_work_2 5 rfl rfl)
theorem dX5_work_52 : decode cX5_work 52 = .ok (.invokevirtual 151, 3) := dk_182 0 151 (dk_at dksX5_work_2 6 rfl rfl)
theorem dX5_work_55 : decode cX5_work 55 = .ok (.goto 4, 3) := dk_167 0 4 (dk_at dksX5_work_2 9 rfl rfl)
theorem dX5_work_58 : decode cX5_work 58 = .ok (.iconst (-1), 1) := dk_2 (dk_at dksX5_work_2 12 rfl rfl)
theorem dX5_work_59 : decode cX5_work 59 = .ok (.ireturn, 1) := dk_172 (dk_at dksX5_work_2 13 rfl rfl)
abbrev cX5_least : ByteArray := prog_13_method_38_code
def yX5_least : MethodName := ⟨RX5, "least", "(I)I"⟩
def dkwX5_least_1 : List UInt8 := [184, 0, 85, 153, 0, 18, 42, 180, 0, 46, 17, 2, 0, 27, 104, 184, 0, 187, 167, 0, 4, 2, 172]
abbrev dktX5_least_1 : List UInt8 := dkwX5_least_1 ++ []
def dkwX5_least_0 : List UInt8 := [42, 3, 181, 0, 78, 42, 180, 0, 96, 154, 0, 6, 16, 254, 172, 27, 133, 9, 42, 180, 0, 165, 133]
abbrev dktX5_least_0 : List UInt8 := dkwX5_least_0 ++ dktX5_least_1
theorem dksX5_least_0 : cX5_least.data.toList.drop 0 = dktX5_least_0 := by decide +kernel
theorem dksX5_least_1 : cX5_least.data.toList.drop 23 = dktX5_least_1 := dk_seg dksX5_least_0 23 rfl rfl
theorem dX5_least_0 : decode cX5_least 0 = .ok (.aload_n 0, 1) := dk_42 (dk_at dksX5_least_0 0 rfl rfl)
theorem dX5_least_1 : decode cX5_least 1 = .ok (.iconst 0, 1) := dk_3 (dk_at dksX5_least_0 1 rfl rfl)
theorem dX5_least_2 : decode cX5_least 2 = .ok (.putfield 78, 3) := dk_181 0 78 (dk_at dksX5_least_0 2 rfl rfl)
theorem dX5_least_5 : decode cX5_least 5 = .ok (.aload_n 0, 1) := dk_42 (dk_at dksX5_least_0 5 rfl rfl)
theorem dX5_least_6 : decode cX5_least 6 = .ok (.getfield 96, 3) := dk_180 0 96 (dk_at dksX5_least_0 6 rfl rfl)
theorem dX5_least_9 : decode cX5_least 9 = .ok (.ifCond .ne 6, 3) := dk_154 0 6 (dk_at dksX5_least_0 9 rfl rfl)
theorem dX5_least_12 : decode cX5_least 12 = .ok (.bipush (-2), 2) := dk_16 254 (dk_at dksX5_least_0 12 rfl rfl)
theorem dX5_least_14 : decode cX5_least 14 = .ok (.ireturn, 1) := dk_172 (dk_at dksX5_least_0 14 rfl rfl)
theorem dX5_least_15 : decode cX5_least 15 = .ok (.iload_n 1, 1) := dk_27 (dk_at dksX5_least_0 15 rfl rfl)
theorem dX5_least_16 : decode cX5_least 16 = .ok (.i2l, 1) := dk_133 (dk_at dksX5_least_0 16 rfl rfl)
theorem dX5_least_17 : decode cX5_least 17 = .ok (.lconst 0, 1) := dk_9 (dk_at dksX5_least_0 17 rfl rfl)
theorem dX5_least_18 : decode cX5_least 18 = .ok (.aload_n 0, 1) := dk_42 (dk_at dksX5_least_0 18 rfl rfl)
theorem dX5_least_19 : decode cX5_least 19 = .ok (.getfield 165, 3) := dk_180 0 165 (dk_at dksX5_least_0 19 rfl rfl)
theorem dX5_least_22 : decode cX5_least 22 = .ok (.i2l, 1) := dk_133 (dk_at dksX5_least_0 22 rfl rfl)
theorem dX5_least_23 : decode cX5_least 23 = .ok (.invokestatic 85, 3) := dk_184 0 85 (dk_at dksX5_least_1 0 rfl rfl)
theorem dX5_least_26 : decode cX5_least 26 = .ok (.ifCond .eq 18, 3) := dk_153 0 18 (dk_at dksX5_least_1 3 rfl rfl)
theorem dX5_least_29 : decode cX5_least 29 = .ok (.aload_n 0, 1) := dk_42 (dk_at dksX5_least_1 6 rfl rfl)
theorem dX5_least_30 : decode cX5_least 30 = .ok (.getfield 46, 3) := dk_180 0 46 (dk_at dksX5_least_1 7 rfl rfl)
theorem dX5_least_33 : decode cX5_least 33 = .ok (.sipush 512, 3) := dk_17 2 0 (dk_at dksX5_least_1 10 rfl rfl)
theorem dX5_least_36 : decode cX5_least 36 = .ok (.iload_n 1, 1) := dk_27 (dk_at dksX5_least_1 13 rfl rfl)
theorem dX5_least_37 : decode cX5_least 37 = .ok (.imul, 1) := dk_104 (dk_at dksX5_least_1 14 rfl rfl)
theorem dX5_least_38 : decode cX5_least 38 = .ok (.invokestatic 187, 3) := dk_184 0 187 (dk_at dksX5_least_1 15 rfl rfl)
theorem dX5_least_41 : decode cX5_least 41 = .ok (.goto 4, 3) := dk_167 0 4 (dk_at dksX5_least_1 18 rfl rfl)
theorem dX5_least_44 : decode cX5_least 44 = .ok (.iconst (-1), 1) := dk_2 (dk_at dksX5_least_1 21 rfl rfl)
theorem dX5_least_45 : decode cX5_least 45 = .ok (.ireturn, 1) := dk_172 (dk_at dksX5_least_1 22 rfl rfl)
abbrev cX5_leastOf : ByteArray := prog_13_method_18_code
def yX5_leastOf : MethodName := ⟨RX5, "leastOf", "([II)I"⟩
def dkwX5_leastOf_1 : List UInt8 := [96, 46, 167, 0, 4, 28, 61, 132, 3, 1, 167, 255, 227, 28, 172]
abbrev dktX5_leastOf_1 : List UInt8 := dkwX5_leastOf_1 ++ []
def dkwX5_leastOf_0 : List UInt8 := [18, 89, 61, 3, 62, 29, 17, 2, 0, 162, 0, 28, 42, 27, 29, 96, 46, 28, 162, 0, 11, 42, 27, 29]
abbrev dktX5_leastOf_0 : List UInt8 := dkwX5_leastOf_0 ++ dktX5_leastOf_1
theorem dksX5_leastOf_0 : cX5_leastOf.data.toList.drop 0 = dktX5_leastOf_0 := by decide +kernel
theorem dksX5_leastOf_1 : cX5_leastOf.data.toList.drop 24 = dktX5_leastOf_1 := dk_seg dksX5_leastOf_0 24 rfl rfl
theorem dX5_leastOf_0 : decode cX5_leastOf 0 = .ok (.ldc 89, 2) := dk_18 89 (dk_at dksX5_leastOf_0 0 rfl rfl)
theorem dX5_leastOf_2 : decode cX5_leastOf 2 = .ok (.istore_n 2, 1) := dk_61 (dk_at dksX5_leastOf_0 2 rfl rfl)
theorem dX5_leastOf_3 : decode cX5_leastOf 3 = .ok (.iconst 0, 1) := dk_3 (dk_at dksX5_leastOf_0 3 rfl rfl)
theorem dX5_leastOf_4 : decode cX5_leastOf 4 = .ok (.istore_n 3, 1) := dk_62 (dk_at dksX5_leastOf_0 4 rfl rfl)
theorem dX5_leastOf_5 : decode cX5_leastOf 5 = .ok (.iload_n 3, 1) := dk_29 (dk_at dksX5_leastOf_0 5 rfl rfl)
theorem dX5_leastOf_6 : decode cX5_leastOf 6 = .ok (.sipush 512, 3) := dk_17 2 0 (dk_at dksX5_leastOf_0 6 rfl rfl)
theorem dX5_leastOf_9 : decode cX5_leastOf 9 = .ok (.if_icmp .ge 28, 3) := dk_162 0 28 (dk_at dksX5_leastOf_0 9 rfl rfl)
theorem dX5_leastOf_12 : decode cX5_leastOf 12 = .ok (.aload_n 0, 1) := dk_42 (dk_at dksX5_leastOf_0 12 rfl rfl)
theorem dX5_leastOf_13 : decode cX5_leastOf 13 = .ok (.iload_n 1, 1) := dk_27 (dk_at dksX5_leastOf_0 13 rfl rfl)
theorem dX5_leastOf_14 : decode cX5_leastOf 14 = .ok (.iload_n 3, 1) := dk_29 (dk_at dksX5_leastOf_0 14 rfl rfl)
theorem dX5_leastOf_15 : decode cX5_leastOf 15 = .ok (.iadd, 1) := dk_96 (dk_at dksX5_leastOf_0 15 rfl rfl)
theorem dX5_leastOf_16 : decode cX5_leastOf 16 = .ok (.iaload, 1) := dk_46 (dk_at dksX5_leastOf_0 16 rfl rfl)
theorem dX5_leastOf_17 : decode cX5_leastOf 17 = .ok (.iload_n 2, 1) := dk_28 (dk_at dksX5_leastOf_0 17 rfl rfl)
theorem dX5_leastOf_18 : decode cX5_leastOf 18 = .ok (.if_icmp .ge 11, 3) := dk_162 0 11 (dk_at dksX5_leastOf_0 18 rfl rfl)
theorem dX5_leastOf_21 : decode cX5_leastOf 21 = .ok (.aload_n 0, 1) := dk_42 (dk_at dksX5_leastOf_0 21 rfl rfl)
theorem dX5_leastOf_22 : decode cX5_leastOf 22 = .ok (.iload_n 1, 1) := dk_27 (dk_at dksX5_leastOf_0 22 rfl rfl)
theorem dX5_leastOf_23 : decode cX5_leastOf 23 = .ok (.iload_n 3, 1) := dk_29 (dk_at dksX5_leastOf_0 23 rfl rfl)
theorem dX5_leastOf_24 : decode cX5_leastOf 24 = .ok (.iadd, 1) := dk_96 (dk_at dksX5_leastOf_1 0 rfl rfl)
theorem dX5_leastOf_25 : decode cX5_leastOf 25 = .ok (.iaload, 1) := dk_46 (dk_at dksX5_leastOf_1 1 rfl rfl)
theorem dX5_leastOf_26 : decode cX5_leastOf 26 = .ok (.goto 4, 3) := dk_167 0 4 (dk_at dksX5_leastOf_1 2 rfl rfl)
theorem dX5_leastOf_29 : decode cX5_leastOf 29 = .ok (.iload_n 2, 1) := dk_28 (dk_at dksX5_leastOf_1 5 rfl rfl)
theorem dX5_leastOf_30 : decode cX5_leastOf 30 = .ok (.istore_n 2, 1) := dk_61 (dk_at dksX5_leastOf_1 6 rfl rfl)
theorem dX5_leastOf_31 : decode cX5_leastOf 31 = .ok (.iinc 3 1, 3) := dk_132 3 1 (dk_at dksX5_leastOf_1 7 rfl rfl)
theorem dX5_leastOf_34 : decode cX5_leastOf 34 = .ok (.goto (-29), 3) := dk_167 255 227 (dk_at dksX5_leastOf_1 10 rfl rfl)
theorem dX5_leastOf_37 : decode cX5_leastOf 37 = .ok (.iload_n 2, 1) := dk_28 (dk_at dksX5_leastOf_1 13 rfl rfl)
theorem dX5_leastOf_38 : decode cX5_leastOf 38 = .ok (.ireturn, 1) := dk_172 (dk_at dksX5_leastOf_1 14 rfl rfl)
abbrev cX5_plan : ByteArray := prog_13_method_39_code
def yX5_plan : MethodName := ⟨RX5, "plan", "(II)I"⟩
def dkwX5_plan_15 : List UInt8 := [180, 0, 28, 21, 5, 46, 184, 0, 113, 62, 21, 6, 54, 4, 132, 5, 1, 167, 255, 151, 21, 4, 172]
abbrev dktX5_plan_15 : List UInt8 := dkwX5_plan_15 ++ []
def dkwX5_plan_14 : List UInt8 := [17, 2, 0, 21, 5, 104, 29, 96, 46, 159, 0, 9, 132, 6, 1, 167, 255, 184, 29, 21, 6, 42]
abbrev dktX5_plan_14 : List UInt8 := dkwX5_plan_14 ++ dktX5_plan_15
def dkwX5_plan_13 : List UInt8 := [4, 96, 104, 29, 21, 6, 42, 180, 0, 28, 21, 5, 46, 184, 0, 113, 96, 46, 96, 42, 180, 0, 69]
abbrev dktX5_plan_13 : List UInt8 := dkwX5_plan_13 ++ dktX5_plan_14
def dkwX5_plan_12 : List UInt8 := [104, 122, 16, 7, 126, 104, 42, 180, 0, 28, 21, 5, 46, 96, 46, 42, 180, 0, 69, 17, 2, 0, 21, 5]
abbrev dktX5_plan_12 : List UInt8 := dkwX5_plan_12 ++ dktX5_plan_13
def dkwX5_plan_11 : List UInt8 := [54, 4, 3, 54, 5, 21, 5, 28, 163, 0, 105, 3, 54, 6, 42, 180, 0, 19, 16, 6, 29, 6, 21, 6]
abbrev dktX5_plan_11 : List UInt8 := dkwX5_plan_11 ++ dktX5_plan_12
def dkwX5_plan_10 : List UInt8 := [132, 5, 1, 167, 255, 128, 132, 4, 1, 167, 255, 96, 132, 3, 255, 167, 255, 83, 42, 180, 0, 117, 62, 3]
abbrev dktX5_plan_10 : List UInt8 := dkwX5_plan_10 ++ dktX5_plan_11
def dkwX5_plan_9 : List UInt8 := [96, 46, 162, 0, 8, 21, 6, 167, 0, 16, 42, 180, 0, 69, 17, 2, 0, 29, 104, 21, 4, 96, 46, 79]
abbrev dktX5_plan_9 : List UInt8 := dkwX5_plan_9 ++ dktX5_plan_10
def dkwX5_plan_8 : List UInt8 := [180, 0, 69, 17, 2, 0, 29, 104, 21, 4, 96, 21, 6, 42, 180, 0, 69, 17, 2, 0, 29, 104, 21, 4]
abbrev dktX5_plan_8 : List UInt8 := dkwX5_plan_8 ++ dktX5_plan_9
def dkwX5_plan_7 : List UInt8 := [29, 4, 96, 104, 21, 4, 21, 5, 42, 180, 0, 28, 29, 46, 184, 0, 113, 96, 46, 96, 54, 6, 42]
abbrev dktX5_plan_7 : List UInt8 := dkwX5_plan_7 ++ dktX5_plan_8
def dkwX5_plan_6 : List UInt8 := [6, 21, 5, 104, 122, 16, 7, 126, 104, 42, 180, 0, 28, 29, 46, 96, 46, 42, 180, 0, 69, 17, 2, 0]
abbrev dktX5_plan_6 : List UInt8 := dkwX5_plan_6 ++ dktX5_plan_7
def dkwX5_plan_5 : List UInt8 := [162, 0, 125, 42, 42, 180, 0, 96, 21, 4, 182, 0, 157, 153, 0, 112, 42, 180, 0, 19, 16, 6, 21, 4]
abbrev dktX5_plan_5 : List UInt8 := dkwX5_plan_5 ++ dktX5_plan_6
def dkwX5_plan_4 : List UInt8 := [180, 0, 69, 17, 2, 0, 29, 104, 21, 4, 96, 18, 89, 79, 3, 54, 5, 21, 5, 42, 180, 0, 96]
abbrev dktX5_plan_4 : List UInt8 := dkwX5_plan_4 ++ dktX5_plan_5
def dkwX5_plan_3 : List UInt8 := [167, 255, 233, 27, 4, 100, 62, 29, 155, 0, 175, 3, 54, 4, 21, 4, 17, 2, 0, 162, 0, 158, 42]
abbrev dktX5_plan_3 : List UInt8 := dkwX5_plan_3 ++ dktX5_plan_4
def dkwX5_plan_2 : List UInt8 := [17, 2, 0, 162, 0, 22, 42, 180, 0, 69, 17, 2, 0, 27, 104, 29, 96, 3, 79, 132, 3, 1]
abbrev dktX5_plan_2 : List UInt8 := dkwX5_plan_2 ++ dktX5_plan_3
def dkwX5_plan_1 : List UInt8 := [184, 0, 85, 153, 0, 16, 28, 133, 9, 27, 4, 100, 133, 184, 0, 85, 154, 0, 5, 2, 172, 3, 62, 29]
abbrev dktX5_plan_1 : List UInt8 := dkwX5_plan_1 ++ dktX5_plan_2
def dkwX5_plan_0 : List UInt8 := [42, 3, 181, 0, 78, 42, 180, 0, 96, 154, 0, 6, 16, 254, 172, 27, 133, 10, 42, 180, 0, 165, 133]
abbrev dktX5_plan_0 : List UInt8 := dkwX5_plan_0 ++ dktX5_plan_1
theorem dksX5_plan_0 : cX5_plan.data.toList.drop 0 = dktX5_plan_0 := by decide +kernel
theorem dksX5_plan_1 : cX5_plan.data.toList.drop 23 = dktX5_plan_1 := dk_seg dksX5_plan_0 23 rfl rfl
theorem dksX5_plan_2 : cX5_plan.data.toList.drop 47 = dktX5_plan_2 := dk_seg dksX5_plan_1 24 rfl rfl
theorem dksX5_plan_3 : cX5_plan.data.toList.drop 69 = dktX5_plan_3 := dk_seg dksX5_plan_2 22 rfl rfl
theorem dksX5_plan_4 : cX5_plan.data.toList.drop 92 = dktX5_plan_4 := dk_seg dksX5_plan_3 23 rfl rfl
theorem dksX5_plan_5 : cX5_plan.data.toList.drop 115 = dktX5_plan_5 := dk_seg dksX5_plan_4 23 rfl rfl
theorem dksX5_plan_6 : cX5_plan.data.toList.drop 139 = dktX5_plan_6 := dk_seg dksX5_plan_5 24 rfl rfl
theorem dksX5_plan_7 : cX5_plan.data.toList.drop 163 = dktX5_plan_7 := dk_seg dksX5_plan_6 24 rfl rfl
theorem dksX5_plan_8 : cX5_plan.data.toList.drop 186 = dktX5_plan_8 := dk_seg dksX5_plan_7 23 rfl rfl
theorem dksX5_plan_9 : cX5_plan.data.toList.drop 210 = dktX5_plan_9 := dk_seg dksX5_plan_8 24 rfl rfl
theorem dksX5_plan_10 : cX5_plan.data.toList.drop 234 = dktX5_plan_10 := dk_seg dksX5_plan_9 24 rfl rfl
theorem dksX5_plan_11 : cX5_plan.data.toList.drop 258 = dktX5_plan_11 := dk_seg dksX5_plan_10 24 rfl rfl
theorem dksX5_plan_12 : cX5_plan.data.toList.drop 282 = dktX5_plan_12 := dk_seg dksX5_plan_11 24 rfl rfl
theorem dksX5_plan_13 : cX5_plan.data.toList.drop 306 = dktX5_plan_13 := dk_seg dksX5_plan_12 24 rfl rfl
theorem dksX5_plan_14 : cX5_plan.data.toList.drop 329 = dktX5_plan_14 := dk_seg dksX5_plan_13 23 rfl rfl
theorem dksX5_plan_15 : cX5_plan.data.toList.drop 351 = dktX5_plan_15 := dk_seg dksX5_plan_14 22 rfl rfl
theorem dX5_plan_0 : decode cX5_plan 0 = .ok (.aload_n 0, 1) := dk_42 (dk_at dksX5_plan_0 0 rfl rfl)
theorem dX5_plan_1 : decode cX5_plan 1 = .ok (.iconst 0, 1) := dk_3 (dk_at dksX5_plan_0 1 rfl rfl)
theorem dX5_plan_2 : decode cX5_plan 2 = .ok (.putfield 78, 3) := dk_181 0 78 (dk_at dksX5_plan_0 2 rfl rfl)
theorem dX5_plan_5 : decode cX5_plan 5 = .ok (.aload_n 0, 1) := dk_42 (dk_at dksX5_plan_0 5 rfl rfl)
theorem dX5_plan_6 : decode cX5_plan 6 = .ok (.getfield 96, 3) := dk_180 0 96 (dk_at dksX5_plan_0 6 rfl rfl)
theorem dX5_plan_9 : decode cX5_plan 9 = .ok (.ifCond .ne 6, 3) := dk_154 0 6 (dk_at dksX5_plan_0 9 rfl rfl)
theorem dX5_plan_12 : decode cX5_plan 12 = .ok (.bipush (-2), 2) := dk_16 254 (dk_at dksX5_plan_0 12 rfl rfl)
theorem dX5_plan_14 : decode cX5_plan 14 = .ok (.ireturn, 1) := dk_172 (dk_at dksX5_plan_0 14 rfl rfl)
theorem dX5_plan_15 : decode cX5_plan 15 = .ok (.iload_n 1, 1) := dk_27 (dk_at dksX5_plan_0 15 rfl rfl)
theorem dX5_plan_16 : decode cX5_plan 16 = .ok (.i2l, 1) := dk_133 (dk_at dksX5_plan_0 16 rfl rfl)
theorem dX5_plan_17 : decode cX5_plan 17 = .ok (.lconst 1, 1) := dk_10 (dk_at dksX5_plan_0 17 rfl rfl)
theorem dX5_plan_18 : decode cX5_plan 18 = .ok (.aload_n 0, 1) := dk_42 (dk_at dksX5_plan_0 18 rfl rfl)
theorem dX5_plan_19 : decode cX5_plan 19 = .ok (.getfield 165, 3) := dk_180 0 165 (dk_at dksX5_plan_0 19 rfl rfl)
theorem dX5_plan_22 : decode cX5_plan 22 = .ok (.i2l, 1) := dk_133 (dk_at dksX5_plan_0 22 rfl rfl)
theorem dX5_plan_23 : decode cX5_plan 23 = .ok (.invokestatic 85, 3) := dk_184 0 85 (dk_at dksX5_plan_1 0 rfl rfl)
theorem dX5_plan_26 : decode cX5_plan 26 = .ok (.ifCond .eq 16, 3) := dk_153 0 16 (dk_at dksX5_plan_1 3 rfl rfl)
theorem dX5_plan_29 : decode cX5_plan 29 = .ok (.iload_n 2, 1) := dk_28 (dk_at dksX5_plan_1 6 rfl rfl)
theorem dX5_plan_30 : decode cX5_plan 30 = .ok (.i2l, 1) := dk_133 (dk_at dksX5_plan_1 7 rfl rfl)
theorem dX5_plan_31 : decode cX5_plan 31 = .ok (.lconst 0, 1) := dk_9 (dk_at dksX5_plan_1 8 rfl rfl)
theorem dX5_plan_32 : decode cX5_plan 32 = .ok (.iload_n 1, 1) := dk_27 (dk_at dksX5_plan_1 9 rfl rfl)
theorem dX5_plan_33 : decode cX5_plan 33 = .ok (.iconst 1, 1) := dk_4 (dk_at dksX5_plan_1 10 rfl rfl)
theorem dX5_plan_34 : decode cX5_plan 34 = .ok (.isub, 1) := dk_100 (dk_at dksX5_plan_1 11 rfl rfl)
theorem dX5_plan_35 : decode cX5_plan 35 = .ok (.i2l, 1) := dk_133 (dk_at dksX5_plan_1 12 rfl rfl)
theorem dX5_plan_36 : decode cX5_plan 36 = .ok (.invokestatic 85, 3) := dk_184 0 85 (dk_at dksX5_plan_1 13 rfl rfl)
theorem dX5_plan_39 : decode cX5_plan 39 = .ok (.ifCond .ne 5, 3) := dk_154 0 5 (dk_at dksX5_plan_1 16 rfl rfl)
theorem dX5_plan_42 : decode cX5_plan 42 = .ok (.iconst (-1), 1) := dk_2 (dk_at dksX5_plan_1 19 rfl rfl)
theorem dX5_plan_43 : decode cX5_plan 43 = .ok (.ireturn, 1) := dk_172 (dk_at dksX5_plan_1 20 rfl rfl)
theorem dX5_plan_44 : decode cX5_plan 44 = .ok (.iconst 0, 1) := dk_3 (dk_at dksX5_plan_1 21 rfl rfl)
theorem dX5_plan_45 : decode cX5_plan 45 = .ok (.istore_n 3, 1) := dk_62 (dk_at dksX5_plan_1 22 rfl rfl)
theorem dX5_plan_46 : decode cX5_plan 46 = .ok (.iload_n 3, 1) := dk_29 (dk_at dksX5_plan_1 23 rfl rfl)
theorem dX5_plan_47 : decode cX5_plan 47 = .ok (.sipush 512, 3) := dk_17 2 0 (dk_at dksX5_plan_2 0 rfl rfl)
theorem dX5_plan_50 : decode cX5_plan 50 = .ok (.if_icmp .ge 22, 3) := dk_162 0 22 (dk_at dksX5_plan_2 3 rfl rfl)
theorem dX5_plan_53 : decode cX5_plan 53 = .ok (.aload_n 0, 1) := dk_42 (dk_at dksX5_plan_2 6 rfl rfl)
theorem dX5_plan_54 : decode cX5_plan 54 = .ok (.getfield 69, 3) := dk_180 0 69 (dk_at dksX5_plan_2 7 rfl rfl)
theorem dX5_plan_57 : decode cX5_plan 57 = .ok (.sipush 512, 3) := dk_17 2 0 (dk_at dksX5_plan_2 10 rfl rfl)
theorem dX5_plan_60 : decode cX5_plan 60 = .ok (.iload_n 1, 1) := dk_27 (dk_at dksX5_plan_2 13 rfl rfl)
theorem dX5_plan_61 : decode cX5_plan 61 = .ok (.imul, 1) := dk_104 (dk_at dksX5_plan_2 14 rfl rfl)
theorem dX5_plan_62 : decode cX5_plan 62 = .ok (.iload_n 3, 1) := dk_29 (dk_at dksX5_plan_2 15 rfl rfl)
theorem dX5_plan_63 : decode cX5_plan 63 = .ok (.iadd, 1) := dk_96 (dk_at dksX5_plan_2 16 rfl rfl)
theorem dX5_plan_64 : decode cX5_plan 64 = .ok (.iconst 0, 1) := dk_3 (dk_at dksX5_plan_2 17 rfl rfl)
theorem dX5_plan_65 : decode cX5_plan 65 = .ok (.iastore, 1) := dk_79 (dk_at dksX5_plan_2 18 rfl rfl)
theorem dX5_plan_66 : decode cX5_plan 66 = .ok (.iinc 3 1, 3) := dk_132 3 1 (dk_at dksX5_plan_2 19 rfl rfl)
theorem dX5_plan_69 : decode cX5_plan 69 = .ok (.goto (-23), 3) := dk_167 255 233 (dk_at dksX5_plan_3 0 rfl rfl)
theorem dX5_plan_72 : decode cX5_plan 72 = .ok (.iload_n 1, 1) := dk_27 (dk_at dksX5_plan_3 3 rfl rfl)
theorem dX5_plan_73 : decode cX5_plan 73 = .ok (.iconst 1, 1) := dk_4 (dk_at dksX5_plan_3 4 rfl rfl)
theorem dX5_plan_74 : decode cX5_plan 74 = .ok (.isub, 1) := dk_100 (dk_at dksX5_plan_3 5 rfl rfl)
theorem dX5_plan_75 : decode cX5_plan 75 = .ok (.istore_n 3, 1) := dk_62 (dk_at dksX5_plan_3 6 rfl rfl)
theorem dX5_plan_76 : decode cX5_plan 76 = .ok (.iload_n 3, 1) := dk_29 (dk_at dksX5_plan_3 7 rfl rfl)
theorem dX5_plan_77 : decode cX5_plan 77 = .ok (.ifCond .lt 175, 3) := dk_155 0 175 (dk_at dksX5_plan_3 8 rfl rfl)
theorem dX5_plan_80 : decode cX5_plan 80 = .ok (.iconst 0, 1) := dk_3 (dk_at dksX5_plan_3 11 rfl rfl)
theorem dX5_plan_81 : decode cX5_plan 81 = .ok (.istore 4, 2) := dk_54 4 (dk_at dksX5_plan_3 12 rfl rfl)
theorem dX5_plan_83 : decode cX5_plan 83 = .ok (.iload 4, 2) := dk_21 4 (dk_at dksX5_plan_3 14 rfl rfl)
theorem dX5_plan_85 : decode cX5_plan 85 = .ok (.sipush 512, 3) := dk_17 2 0 (dk_at dksX5_plan_3 16 rfl rfl)
theorem dX5_plan_88 : decode cX5_plan 88 = .ok (.if_icmp .ge 158, 3) := dk_162 0 158 (dk_at dksX5_plan_3 19 rfl rfl)
theorem dX5_plan_91 : decode cX5_plan 91 = .ok (.aload_n 0, 1) := dk_42 (dk_at dksX5_plan_3 22 rfl rfl)
theorem dX5_plan_92 : decode cX5_plan 92 = .ok (.getfield 69, 3) := dk_180 0 69 (dk_at dksX5_plan_4 0 rfl rfl)
theorem dX5_plan_95 : decode cX5_plan 95 = .ok (.sipush 512, 3) := dk_17 2 0 (dk_at dksX5_plan_4 3 rfl rfl)
theorem dX5_plan_98 : decode cX5_plan 98 = .ok (.iload_n 3, 1) := dk_29 (dk_at dksX5_plan_4 6 rfl rfl)
theorem dX5_plan_99 : decode cX5_plan 99 = .ok (.imul, 1) := dk_104 (dk_at dksX5_plan_4 7 rfl rfl)
theorem dX5_plan_100 : decode cX5_plan 100 = .ok (.iload 4, 2) := dk_21 4 (dk_at dksX5_plan_4 8 rfl rfl)
theorem dX5_plan_102 : decode cX5_plan 102 = .ok (.iadd, 1) := dk_96 (dk_at dksX5_plan_4 10 rfl rfl)
theorem dX5_plan_103 : decode cX5_plan 103 = .ok (.ldc 89, 2) := dk_18 89 (dk_at dksX5_plan_4 11 rfl rfl)
theorem dX5_plan_105 : decode cX5_plan 105 = .ok (.iastore, 1) := dk_79 (dk_at dksX5_plan_4 13 rfl rfl)
theorem dX5_plan_106 : decode cX5_plan 106 = .ok (.iconst 0, 1) := dk_3 (dk_at dksX5_plan_4 14 rfl rfl)
theorem dX5_plan_107 : decode cX5_plan 107 = .ok (.istore 5, 2) := dk_54 5 (dk_at dksX5_plan_4 15 rfl rfl)
theorem dX5_plan_109 : decode cX5_plan 109 = .ok (.iload 5, 2) := dk_21 5 (dk_at dksX5_plan_4 17 rfl rfl)
theorem dX5_plan_111 : decode cX5_plan 111 = .ok (.aload_n 0, 1) := dk_42 (dk_at dksX5_plan_4 19 rfl rfl)
theorem dX5_plan_112 : decode cX5_plan 112 = .ok (.getfield 96, 3) := dk_180 0 96 (dk_at dksX5_plan_4 20 rfl rfl)
theorem dX5_plan_115 : decode cX5_plan 115 = .ok (.if_icmp .ge 125, 3) := dk_162 0 125 (dk_at dksX5_plan_5 0 rfl rfl)
theorem dX5_plan_118 : decode cX5_plan 118 = .ok (.aload_n 0, 1) := dk_42 (dk_at dksX5_plan_5 3 rfl rfl)
theorem dX5_plan_119 : decode cX5_plan 119 = .ok (.aload_n 0, 1) := dk_42 (dk_at dksX5_plan_5 4 rfl rfl)
theorem dX5_plan_120 : decode cX5_plan 120 = .ok (.getfield 96, 3) := dk_180 0 96 (dk_at dksX5_plan_5 5 rfl rfl)
theorem dX5_plan_123 : decode cX5_plan 123 = .ok (.iload 4, 2) := dk_21 4 (dk_at dksX5_plan_5 8 rfl rfl)
theorem dX5_plan_125 : decode cX5_plan 125 = .ok (.invokevirtual 157, 3) := dk_182 0 157 (dk_at dksX5_plan_5 10 rfl rfl)
theorem dX5_plan_128 : decode cX5_plan 128 = .ok (.ifCond .eq 112, 3) := dk_153 0 112 (dk_at dksX5_plan_5 13 rfl rfl)
theorem dX5_plan_131 : decode cX5_plan 131 = .ok (.aload_n 0, 1) := dk_42 (dk_at dksX5_plan_5 16 rfl rfl)
theorem dX5_plan_132 : decode cX5_plan 132 = .ok (.getfield 19, 3) := dk_180 0 19 (dk_at dksX5_plan_5 17 rfl rfl)
theorem dX5_plan_135 : decode cX5_plan 135 = .ok (.bipush 6, 2) := dk_16 6 (dk_at dksX5_plan_5 20 rfl rfl)
theorem dX5_plan_137 : decode cX5_plan 137 = .ok (.iload 4, 2) := dk_21 4 (dk_at dksX5_plan_5 22 rfl rfl)
theorem dX5_plan_139 : decode cX5_plan 139 = .ok (.iconst 3, 1) := dk_6 (dk_at dksX5_plan_6 0 rfl rfl)
theorem dX5_plan_140 : decode cX5_plan 140 = .ok (.iload 5, 2) := dk_21 5 (dk_at dksX5_plan_6 1 rfl rfl)
theorem dX5_plan_142 : decode cX5_plan 142 = .ok (.imul, 1) := dk_104 (dk_at dksX5_plan_6 3 rfl rfl)
theorem dX5_plan_143 : decode cX5_plan 143 = .ok (.ishr, 1) := dk_122 (dk_at dksX5_plan_6 4 rfl rfl)
theorem dX5_plan_144 : decode cX5_plan 144 = .ok (.bipush 7, 2) := dk_16 7 (dk_at dksX5_plan_6 5 rfl rfl)
theorem dX5_plan_146 : decode cX5_plan 146 = .ok (.iand, 1) := dk_126 (dk_at dksX5_plan_6 7 rfl rfl)
theorem dX5_plan_147 : decode cX5_plan 147 = .ok (.imul, 1) := dk_104 (dk_at dksX5_plan_6 8 rfl rfl)
theorem dX5_plan_148 : decode cX5_plan 148 = .ok (.aload_n 0, 1) := dk_42 (dk_at dksX5_plan_6 9 rfl rfl)
theorem dX5_plan_149 : decode cX5_plan 149 = .ok (.getfield 28, 3) := dk_180 0 28 (dk_at dksX5_plan_6 10 rfl rfl)
theorem dX5_plan_152 : decode cX5_plan 152 = .ok (.iload_n 3, 1) := dk_29 (dk_at dksX5_plan_6 13 rfl rfl)
theorem dX5_plan_153 : decode cX5_plan 153 = .ok (.iaload, 1) := dk_46 (dk_at dksX5_plan_6 14 rfl rfl)
theorem dX5_plan_154 : decode cX5_plan 154 = .ok (.iadd, 1) := dk_96 (dk_at dksX5_plan_6 15 rfl rfl)
theorem dX5_plan_155 : decode cX5_plan 155 = .ok (.iaload, 1) := dk_46 (dk_at dksX5_plan_6 16 rfl rfl)
theorem dX5_plan_156 : decode cX5_plan 156 = .ok (.aload_n 0, 1) := dk_42 (dk_at dksX5_plan_6 17 rfl rfl)
theorem dX5_plan_157 : decode cX5_plan 157 = .ok (.getfield 69, 3) := dk_180 0 69 (dk_at dksX5_plan_6 18 rfl rfl)
theorem dX5_plan_160 : decode cX5_plan 160 = .ok (.sipush 512, 3) := dk_17 2 0 (dk_at dksX5_plan_6 21 rfl rfl)
theorem dX5_plan_163 : decode cX5_plan 163 = .ok (.iload_n 3, 1) := dk_29 (dk_at dksX5_plan_7 0 rfl rfl)
theorem dX5_plan_164 : decode cX5_plan 164 = .ok (.iconst 1, 1) := dk_4 (dk_at dksX5_plan_7 1 rfl rfl)
theorem dX5_plan_165 : decode cX5_plan 165 = .ok (.iadd, 1) := dk_96 (dk_at dksX5_plan_7 2 rfl rfl)
theorem dX5_plan_166 : decode cX5_plan 166 = .ok (.imul, 1) := dk_104 (dk_at dksX5_plan_7 3 rfl rfl)
theorem dX5_plan_167 : decode cX5_plan 167 = .ok (.iload 4, 2) := dk_21 4 (dk_at dksX5_plan_7 4 rfl rfl)
theorem dX5_plan_169 : decode cX5_plan 169 = .ok (.iload 5, 2) := dk_21 5 (dk_at dksX5_plan_7 6 rfl rfl)
theorem dX5_plan_171 : decode cX5_plan 171 = .ok (.aload_n 0, 1) := dk_42 (dk_at dksX5_plan_7 8 rfl rfl)
theorem dX5_plan_172 : decode cX5_plan 172 = .ok (.getfield 28, 3) := dk_180 0 28 (dk_at dksX5_plan_7 9 rfl rfl)
theorem dX5_plan_175 : decode cX5_plan 175 = .ok (.iload_n 3, 1) := dk_29 (dk_at dksX5_plan_7 12 rfl rfl)
theorem dX5_plan_176 : decode cX5_plan 176 = .ok (.iaload, 1) := dk_46 (dk_at dksX5_plan_7 13 rfl rfl)
theorem dX5_plan_177 : decode cX5_plan 177 = .ok (.invokestatic 113, 3) := dk_184 0 113 (dk_at dksX5_plan_7 14 rfl rfl)
theorem dX5_plan_180 : decode cX5_plan 180 = .ok (.iadd, 1) := dk_96 (dk_at dksX5_plan_7 17 rfl rfl)
theorem dX5_plan_181 : decode cX5_plan 181 = .ok (.iaload, 1) := dk_46 (dk_at dksX5_plan_7 18 rfl rfl)
theorem dX5_plan_182 : decode cX5_plan 182 = .ok (.iadd, 1) := dk_96 (dk_at dksX5_plan_7 19 rfl rfl)
theorem dX5_plan_183 : decode cX5_plan 183 = .ok (.istore 6, 2) := dk_54 6 (dk_at dksX5_plan_7 20 rfl rfl)
theorem dX5_plan_185 : decode cX5_plan 185 = .ok (.aload_n 0, 1) := dk_42 (dk_at dksX5_plan_7 22 rfl rfl)
theorem dX5_plan_186 : decode cX5_plan 186 = .ok (.getfield 69, 3) := dk_180 0 69 (dk_at dksX5_plan_8 0 rfl rfl)
theorem dX5_plan_189 : decode cX5_plan 189 = .ok (.sipush 512, 3) := dk_17 2 0 (dk_at dksX5_plan_8 3 rfl rfl)
theorem dX5_plan_192 : decode cX5_plan 192 = .ok (.iload_n 3, 1) := dk_29 (dk_at dksX5_plan_8 6 rfl rfl)
theorem dX5_plan_193 : decode cX5_plan 193 = .ok (.imul, 1) := dk_104 (dk_at dksX5_plan_8 7 rfl rfl)
theorem dX5_plan_194 : decode cX5_plan 194 = .ok (.iload 4, 2) := dk_21 4 (dk_at dksX5_plan_8 8 rfl rfl)
theorem dX5_plan_196 : decode cX5_plan 196 = .ok (.iadd, 1) := dk_96 (dk_at dksX5_plan_8 10 rfl rfl)
theorem dX5_plan_197 : decode cX5_plan 197 = .ok (.iload 6, 2) := dk_21 6 (dk_at dksX5_plan_8 11 rfl rfl)
theorem dX5_plan_199 : decode cX5_plan 199 = .ok (.aload_n 0, 1) := dk_42 (dk_at dksX5_plan_8 13 rfl rfl)
theorem dX5_plan_200 : decode cX5_plan 200 = .ok (.getfield 69, 3) := dk_180 0 69 (dk_at dksX5_plan_8 14 rfl rfl)
theorem dX5_plan_203 : decode cX5_plan 203 = .ok (.sipush 512, 3) := dk_17 2 0 (dk_at dksX5_plan_8 17 rfl rfl)
theorem dX5_plan_206 : decode cX5_plan 206 = .ok (.iload_n 3, 1) := dk_29 (dk_at dksX5_plan_8 20 rfl rfl)
theorem dX5_plan_207 : decode cX5_plan 207 = .ok (.imul, 1) := dk_104 (dk_at dksX5_plan_8 21 rfl rfl)
theorem dX5_plan_208 : decode cX5_plan 208 = .ok (.iload 4, 2) := dk_21 4 (dk_at dksX5_plan_8 22 rfl rfl)
theorem dX5_plan_210 : decode cX5_plan 210 = .ok (.iadd, 1) := dk_96 (dk_at dksX5_plan_9 0 rfl rfl)
theorem dX5_plan_211 : decode cX5_plan 211 = .ok (.iaload, 1) := dk_46 (dk_at dksX5_plan_9 1 rfl rfl)
theorem dX5_plan_212 : decode cX5_plan 212 = .ok (.if_icmp .ge 8, 3) := dk_162 0 8 (dk_at dksX5_plan_9 2 rfl rfl)
theorem dX5_plan_215 : decode cX5_plan 215 = .ok (.iload 6, 2) := dk_21 6 (dk_at dksX5_plan_9 5 rfl rfl)
theorem dX5_plan_217 : decode cX5_plan 217 = .ok (.goto 16, 3) := dk_167 0 16 (dk_at dksX5_plan_9 7 rfl rfl)
theorem dX5_plan_220 : decode cX5_plan 220 = .ok (.aload_n 0, 1) := dk_42 (dk_at dksX5_plan_9 10 rfl rfl)
theorem dX5_plan_221 : decode cX5_plan 221 = .ok (.getfield 69, 3) := dk_180 0 69 (dk_at dksX5_plan_9 11 rfl rfl)
theorem dX5_plan_224 : decode cX5_plan 224 = .ok (.sipush 512, 3) := dk_17 2 0 (dk_at dksX5_plan_9 14 rfl rfl)
theorem dX5_plan_227 : decode cX5_plan 227 = .ok (.iload_n 3, 1) := dk_29 (dk_at dksX5_plan_9 17 rfl rfl)
theorem dX5_plan_228 : decode cX5_plan 228 = .ok (.imul, 1) := dk_104 (dk_at dksX5_plan_9 18 rfl rfl)
theorem dX5_plan_229 : decode cX5_plan 229 = .ok (.iload 4, 2) := dk_21 4 (dk_at dksX5_plan_9 19 rfl rfl)
theorem dX5_plan_231 : decode cX5_plan 231 = .ok (.iadd, 1) := dk_96 (dk_at dksX5_plan_9 21 rfl rfl)
theorem dX5_plan_232 : decode cX5_plan 232 = .ok (.iaload, 1) := dk_46 (dk_at dksX5_plan_9 22 rfl rfl)
theorem dX5_plan_233 : decode cX5_plan 233 = .ok (.iastore, 1) := dk_79 (dk_at dksX5_plan_9 23 rfl rfl)
theorem dX5_plan_234 : decode cX5_plan 234 = .ok (.iinc 5 1, 3) := dk_132 5 1 (dk_at dksX5_plan_10 0 rfl rfl)
theorem dX5_plan_237 : decode cX5_plan 237 = .ok (.goto (-128), 3) := dk_167 255 128 (dk_at dksX5_plan_10 3 rfl rfl)
theorem dX5_plan_240 : decode cX5_plan 240 = .ok (.iinc 4 1, 3) := dk_132 4 1 (dk_at dksX5_plan_10 6 rfl rfl)
theorem dX5_plan_243 : decode cX5_plan 243 = .ok (.goto (-160), 3) := dk_167 255 96 (dk_at dksX5_plan_10 9 rfl rfl)
theorem dX5_plan_246 : decode cX5_plan 246 = .ok (.iinc 3 (-1), 3) := dk_132 3 255 (dk_at dksX5_plan_10 12 rfl rfl)
theorem dX5_plan_249 : decode cX5_plan 249 = .ok (.goto (-173), 3) := dk_167 255 83 (dk_at dksX5_plan_10 15 rfl rfl)
theorem dX5_plan_252 : decode cX5_plan 252 = .ok (.aload_n 0, 1) := dk_42 (dk_at dksX5_plan_10 18 rfl rfl)
theorem dX5_plan_253 : decode cX5_plan 253 = .ok (.getfield 117, 3) := dk_180 0 117 (dk_at dksX5_plan_10 19 rfl rfl)
theorem dX5_plan_256 : decode cX5_plan 256 = .ok (.istore_n 3, 1) := dk_62 (dk_at dksX5_plan_10 22 rfl rfl)
theorem dX5_plan_257 : decode cX5_plan 257 = .ok (.iconst 0, 1) := dk_3 (dk_at dksX5_plan_10 23 rfl rfl)
theorem dX5_plan_258 : decode cX5_plan 258 = .ok (.istore 4, 2) := dk_54 4 (dk_at dksX5_plan_11 0 rfl rfl)
theorem dX5_plan_260 : decode cX5_plan 260 = .ok (.iconst 0, 1) := dk_3 (dk_at dksX5_plan_11 2 rfl rfl)
theorem dX5_plan_261 : decode cX5_plan 261 = .ok (.istore 5, 2) := dk_54 5 (dk_at dksX5_plan_11 3 rfl rfl)
theorem dX5_plan_263 : decode cX5_plan 263 = .ok (.iload 5, 2) := dk_21 5 (dk_at dksX5_plan_11 5 rfl rfl)
theorem dX5_plan_265 : decode cX5_plan 265 = .ok (.iload_n 2, 1) := dk_28 (dk_at dksX5_plan_11 7 rfl rfl)
theorem dX5_plan_266 : decode cX5_plan 266 = .ok (.if_icmp .gt 105, 3) := dk_163 0 105 (dk_at dksX5_plan_11 8 rfl rfl)
theorem dX5_plan_269 : decode cX5_plan 269 = .ok (.iconst 0, 1) := dk_3 (dk_at dksX5_plan_11 11 rfl rfl)
theorem dX5_plan_270 : decode cX5_plan 270 = .ok (.istore 6, 2) := dk_54 6 (dk_at dksX5_plan_11 12 rfl rfl)
theorem dX5_plan_272 : decode cX5_plan 272 = .ok (.aload_n 0, 1) := dk_42 (dk_at dksX5_plan_11 14 rfl rfl)
theorem dX5_plan_273 : decode cX5_plan 273 = .ok (.getfield 19, 3) := dk_180 0 19 (dk_at dksX5_plan_11 15 rfl rfl)
theorem dX5_plan_276 : decode cX5_plan 276 = .ok (.bipush 6, 2) := dk_16 6 (dk_at dksX5_plan_11 18 rfl rfl)
theorem dX5_plan_278 : decode cX5_plan 278 = .ok (.iload_n 3, 1) := dk_29 (dk_at dksX5_plan_11 20 rfl rfl)
theorem dX5_plan_279 : decode cX5_plan 279 = .ok (.iconst 3, 1) := dk_6 (dk_at dksX5_plan_11 21 rfl rfl)
theorem dX5_plan_280 : decode cX5_plan 280 = .ok (.iload 6, 2) := dk_21 6 (dk_at dksX5_plan_11 22 rfl rfl)
theorem dX5_plan_282 : decode cX5_plan 282 = .ok (.imul, 1) := dk_104 (dk_at dksX5_plan_12 0 rfl rfl)
theorem dX5_plan_283 : decode cX5_plan 283 = .ok (.ishr, 1) := dk_122 (dk_at dksX5_plan_12 1 rfl rfl)
theorem dX5_plan_284 : decode cX5_plan 284 = .ok (.bipush 7, 2) := dk_16 7 (dk_at dksX5_plan_12 2 rfl rfl)
theorem dX5_plan_286 : decode cX5_plan 286 = .ok (.iand, 1) := dk_126 (dk_at dksX5_plan_12 4 rfl rfl)
theorem dX5_plan_287 : decode cX5_plan 287 = .ok (.imul, 1) := dk_104 (dk_at dksX5_plan_12 5 rfl rfl)
theorem dX5_plan_288 : decode cX5_plan 288 = .ok (.aload_n 0, 1) := dk_42 (dk_at dksX5_plan_12 6 rfl rfl)
theorem dX5_plan_289 : decode cX5_plan 289 = .ok (.getfield 28, 3) := dk_180 0 28 (dk_at dksX5_plan_12 7 rfl rfl)
theorem dX5_plan_292 : decode cX5_plan 292 = .ok (.iload 5, 2) := dk_21 5 (dk_at dksX5_plan_12 10 rfl rfl)
theorem dX5_plan_294 : decode cX5_plan 294 = .ok (.iaload, 1) := dk_46 (dk_at dksX5_plan_12 12 rfl rfl)
theorem dX5_plan_295 : decode cX5_plan 295 = .ok (.iadd, 1) := dk_96 (dk_at dksX5_plan_12 13 rfl rfl)
theorem dX5_plan_296 : decode cX5_plan 296 = .ok (.iaload, 1) := dk_46 (dk_at dksX5_plan_12 14 rfl rfl)
theorem dX5_plan_297 : decode cX5_plan 297 = .ok (.aload_n 0, 1) := dk_42 (dk_at dksX5_plan_12 15 rfl rfl)
theorem dX5_plan_298 : decode cX5_plan 298 = .ok (.getfield 69, 3) := dk_180 0 69 (dk_at dksX5_plan_12 16 rfl rfl)
theorem dX5_plan_301 : decode cX5_plan 301 = .ok (.sipush 512, 3) := dk_17 2 0 (dk_at dksX5_plan_12 19 rfl rfl)
theorem dX5_plan_304 : decode cX5_plan 304 = .ok (.iload 5, 2) := dk_21 5 (dk_at dksX5_plan_12 22 rfl rfl)
theorem dX5_plan_306 : decode cX5_plan 306 = .ok (.iconst 1, 1) := dk_4 (dk_at dksX5_plan_13 0 rfl rfl)
theorem dX5_plan_307 : decode cX5_plan 307 = .ok (.iadd, 1) := dk_96 (dk_at dksX5_plan_13 1 rfl rfl)
theorem dX5_plan_308 : decode cX5_plan 308 = .ok (.imul, 1) := dk_104 (dk_at dksX5_plan_13 2 rfl rfl)
theorem dX5_plan_309 : decode cX5_plan 309 = .ok (.iload_n 3, 1) := dk_29 (dk_at dksX5_plan_13 3 rfl rfl)
theorem dX5_plan_310 : decode cX5_plan 310 = .ok (.iload 6, 2) := dk_21 6 (dk_at dksX5_plan_13 4 rfl rfl)
theorem dX5_plan_312 : decode cX5_plan 312 = .ok (.aload_n 0, 1) := dk_42 (dk_at dksX5_plan_13 6 rfl rfl)
theorem dX5_plan_313 : decode cX5_plan 313 = .ok (.getfield 28, 3) := dk_180 0 28 (dk_at dksX5_plan_13 7 rfl rfl)
theorem dX5_plan_316 : decode cX5_plan 316 = .ok (.iload 5, 2) := dk_21 5 (dk_at dksX5_plan_13 10 rfl rfl)
theorem dX5_plan_318 : decode cX5_plan 318 = .ok (.iaload, 1) := dk_46 (dk_at dksX5_plan_13 12 rfl rfl)
theorem dX5_plan_319 : decode cX5_plan 319 = .ok (.invokestatic 113, 3) := dk_184 0 113 (dk_at dksX5_plan_13 13 rfl rfl)
theorem dX5_plan_322 : decode cX5_plan 322 = .ok (.iadd, 1) := dk_96 (dk_at dksX5_plan_13 16 rfl rfl)
theorem dX5_plan_323 : decode cX5_plan 323 = .ok (.iaload, 1) := dk_46 (dk_at dksX5_plan_13 17 rfl rfl)
theorem dX5_plan_324 : decode cX5_plan 324 = .ok (.iadd, 1) := dk_96 (dk_at dksX5_plan_13 18 rfl rfl)
theorem dX5_plan_325 : decode cX5_plan 325 = .ok (.aload_n 0, 1) := dk_42 (dk_at dksX5_plan_13 19 rfl rfl)
theorem dX5_plan_326 : decode cX5_plan 326 = .ok (.getfield 69, 3) := dk_180 0 69 (dk_at dksX5_plan_13 20 rfl rfl)
theorem dX5_plan_329 : decode cX5_plan 329 = .ok (.sipush 512, 3) := dk_17 2 0 (dk_at dksX5_plan_14 0 rfl rfl)
theorem dX5_plan_332 : decode cX5_plan 332 = .ok (.iload 5, 2) := dk_21 5 (dk_at dksX5_plan_14 3 rfl rfl)
theorem dX5_plan_334 : decode cX5_plan 334 = .ok (.imul, 1) := dk_104 (dk_at dksX5_plan_14 5 rfl rfl)
theorem dX5_plan_335 : decode cX5_plan 335 = .ok (.iload_n 3, 1) := dk_29 (dk_at dksX5_plan_14 6 rfl rfl)
theorem dX5_plan_336 : decode cX5_plan 336 = .ok (.iadd, 1) := dk_96 (dk_at dksX5_plan_14 7 rfl rfl)
theorem dX5_plan_337 : decode cX5_plan 337 = .ok (.iaload, 1) := dk_46 (dk_at dksX5_plan_14 8 rfl rfl)
theorem dX5_plan_338 : decode cX5_plan 338 = .ok (.if_icmp .eq 9, 3) := dk_159 0 9 (dk_at dksX5_plan_14 9 rfl rfl)
theorem dX5_plan_341 : decode cX5_plan 341 = .ok (.iinc 6 1, 3) := dk_132 6 1 (dk_at dksX5_plan_14 12 rfl rfl)
theorem dX5_plan_344 : decode cX5_plan 344 = .ok (.goto (-72), 3) := dk_167 255 184 (dk_at dksX5_plan_14 15 rfl rfl)
theorem dX5_plan_347 : decode cX5_plan 347 = .ok (.iload_n 3, 1) := dk_29 (dk_at dksX5_plan_14 18 rfl rfl)
theorem dX5_plan_348 : decode cX5_plan 348 = .ok (.iload 6, 2) := dk_21 6 (dk_at dksX5_plan_14 19 rfl rfl)
theorem dX5_plan_350 : decode cX5_plan 350 = .ok (.aload_n 0, 1) := dk_42 (dk_at dksX5_plan_14 21 rfl rfl)
theorem dX5_plan_351 : decode cX5_plan 351 = .ok (.getfield 28, 3) := dk_180 0 28 (dk_at dksX5_plan_15 0 rfl rfl)
theorem dX5_plan_354 : decode cX5_plan 354 = .ok (.iload 5, 2) := dk_21 5 (dk_at dksX5_plan_15 3 rfl rfl)
theorem dX5_plan_356 : decode cX5_plan 356 = .ok (.iaload, 1) := dk_46 (dk_at dksX5_plan_15 5 rfl rfl)
theorem dX5_plan_357 : decode cX5_plan 357 = .ok (.invokestatic 113, 3) := dk_184 0 113 (dk_at dksX5_plan_15 6 rfl rfl)
theorem dX5_plan_360 : decode cX5_plan 360 = .ok (.istore_n 3, 1) := dk_62 (dk_at dksX5_plan_15 9 rfl rfl)
theorem dX5_plan_361 : decode cX5_plan 361 = .ok (.iload 6, 2) := dk_21 6 (dk_at dksX5_plan_15 10 rfl rfl)
theorem dX5_plan_363 : decode cX5_plan 363 = .ok (.istore 4, 2) := dk_54 4 (dk_at dksX5_plan_15 12 rfl rfl)
theorem dX5_plan_365 : decode cX5_plan 365 = .ok (.iinc 5 1, 3) := dk_132 5 1 (dk_at dksX5_plan_15 14 rfl rfl)
theorem dX5_plan_368 : decode cX5_plan 368 = .ok (.goto (-105), 3) := dk_167 255 151 (dk_at dksX5_plan_15 17 rfl rfl)
theorem dX5_plan_371 : decode cX5_plan 371 = .ok (.iload 4, 2) := dk_21 4 (dk_at dksX5_plan_15 20 rfl rfl)
theorem dX5_plan_373 : decode cX5_plan 373 = .ok (.ireturn, 1) := dk_172 (dk_at dksX5_plan_15 22 rfl rfl)
abbrev cX5_ratio : ByteArray := prog_13_method_40_code
def yX5_ratio : MethodName := ⟨RX5, "ratio", "()I"⟩
def dkwX5_ratio_2 : List UInt8 := [104, 27, 108, 172]
abbrev dktX5_ratio_2 : List UInt8 := dkwX5_ratio_2 ++ []
def dkwX5_ratio_1 : List UInt8 := [180, 0, 165, 104, 184, 0, 187, 60, 27, 154, 0, 8, 16, 247, 167, 0, 13, 17, 3, 232, 42, 182, 0, 183]
abbrev dktX5_ratio_1 : List UInt8 := dkwX5_ratio_1 ++ dktX5_ratio_2
def dkwX5_ratio_0 : List UInt8 := [42, 3, 181, 0, 78, 42, 180, 0, 96, 154, 0, 6, 16, 254, 172, 42, 180, 0, 46, 17, 2, 0, 42]
abbrev dktX5_ratio_0 : List UInt8 := dkwX5_ratio_0 ++ dktX5_ratio_1
theorem dksX5_ratio_0 : cX5_ratio.data.toList.drop 0 = dktX5_ratio_0 := by decide +kernel
theorem dksX5_ratio_1 : cX5_ratio.data.toList.drop 23 = dktX5_ratio_1 := dk_seg dksX5_ratio_0 23 rfl rfl
theorem dksX5_ratio_2 : cX5_ratio.data.toList.drop 47 = dktX5_ratio_2 := dk_seg dksX5_ratio_1 24 rfl rfl
theorem dX5_ratio_0 : decode cX5_ratio 0 = .ok (.aload_n 0, 1) := dk_42 (dk_at dksX5_ratio_0 0 rfl rfl)
theorem dX5_ratio_1 : decode cX5_ratio 1 = .ok (.iconst 0, 1) := dk_3 (dk_at dksX5_ratio_0 1 rfl rfl)
theorem dX5_ratio_2 : decode cX5_ratio 2 = .ok (.putfield 78, 3) := dk_181 0 78 (dk_at dksX5_ratio_0 2 rfl rfl)
theorem dX5_ratio_5 : decode cX5_ratio 5 = .ok (.aload_n 0, 1) := dk_42 (dk_at dksX5_ratio_0 5 rfl rfl)
theorem dX5_ratio_6 : decode cX5_ratio 6 = .ok (.getfield 96, 3) := dk_180 0 96 (dk_at dksX5_ratio_0 6 rfl rfl)
theorem dX5_ratio_9 : decode cX5_ratio 9 = .ok (.ifCond .ne 6, 3) := dk_154 0 6 (dk_at dksX5_ratio_0 9 rfl rfl)
theorem dX5_ratio_12 : decode cX5_ratio 12 = .ok (.bipush (-2), 2) := dk_16 254 (dk_at dksX5_ratio_0 12 rfl rfl)
theorem dX5_ratio_14 : decode cX5_ratio 14 = .ok (.ireturn, 1) := dk_172 (dk_at dksX5_ratio_0 14 rfl rfl)
theorem dX5_ratio_15 : decode cX5_ratio 15 = .ok (.aload_n 0, 1) := dk_42 (dk_at dksX5_ratio_0 15 rfl rfl)
theorem dX5_ratio_16 : decode cX5_ratio 16 = .ok (.getfield 46, 3) := dk_180 0 46 (dk_at dksX5_ratio_0 16 rfl rfl)
theorem dX5_ratio_19 : decode cX5_ratio 19 = .ok (.sipush 512, 3) := dk_17 2 0 (dk_at dksX5_ratio_0 19 rfl rfl)
theorem dX5_ratio_22 : decode cX5_ratio 22 = .ok (.aload_n 0, 1) := dk_42 (dk_at dksX5_ratio_0 22 rfl rfl)
theorem dX5_ratio_23 : decode cX5_ratio 23 = .ok (.getfield 165, 3) := dk_180 0 165 (dk_at dksX5_ratio_1 0 rfl rfl)
theorem dX5_ratio_26 : decode cX5_ratio 26 = .ok (.imul, 1) := dk_104 (dk_at dksX5_ratio_1 3 rfl rfl)
theorem dX5_ratio_27 : decode cX5_ratio 27 = .ok (.invokestatic 187, 3) := dk_184 0 187 (dk_at dksX5_ratio_1 4 rfl rfl)
theorem dX5_ratio_30 : decode cX5_ratio 30 = .ok (.istore_n 1, 1) := dk_60 (dk_at dksX5_ratio_1 7 rfl rfl)
theorem dX5_ratio_31 : decode cX5_ratio 31 = .ok (.iload_n 1, 1) := dk_27 (dk_at dksX5_ratio_1 8 rfl rfl)
theorem dX5_ratio_32 : decode cX5_ratio 32 = .ok (.ifCond .ne 8, 3) := dk_154 0 8 (dk_at dksX5_ratio_1 9 rfl rfl)
theorem dX5_ratio_35 : decode cX5_ratio 35 = .ok (.bipush (-9), 2) := dk_16 247 (dk_at dksX5_ratio_1 12 rfl rfl)
theorem dX5_ratio_37 : decode cX5_ratio 37 = .ok (.goto 13, 3) := dk_167 0 13 (dk_at dksX5_ratio_1 14 rfl rfl)
theorem dX5_ratio_40 : decode cX5_ratio 40 = .ok (.sipush 1000, 3) := dk_17 3 232 (dk_at dksX5_ratio_1 17 rfl rfl)
theorem dX5_ratio_43 : decode cX5_ratio 43 = .ok (.aload_n 0, 1) := dk_42 (dk_at dksX5_ratio_1 20 rfl rfl)
theorem dX5_ratio_44 : decode cX5_ratio 44 = .ok (.invokevirtual 183, 3) := dk_182 0 183 (dk_at dksX5_ratio_1 21 rfl rfl)
theorem dX5_ratio_47 : decode cX5_ratio 47 = .ok (.imul, 1) := dk_104 (dk_at dksX5_ratio_2 0 rfl rfl)
theorem dX5_ratio_48 : decode cX5_ratio 48 = .ok (.iload_n 1, 1) := dk_27 (dk_at dksX5_ratio_2 1 rfl rfl)
theorem dX5_ratio_49 : decode cX5_ratio 49 = .ok (.idiv, 1) := dk_108 (dk_at dksX5_ratio_2 2 rfl rfl)
theorem dX5_ratio_50 : decode cX5_ratio 50 = .ok (.ireturn, 1) := dk_172 (dk_at dksX5_ratio_2 3 rfl rfl)
abbrev cX5_worst : ByteArray := prog_13_method_41_code
def yX5_worst : MethodName := ⟨RX5, "worst", "(II)I"⟩
def dkwX5_worst_17 : List UInt8 := [167, 0, 5, 21, 7, 172]
abbrev dktX5_worst_17 : List UInt8 := dkwX5_worst_17 ++ []
def dkwX5_worst_16 : List UInt8 := [54, 7, 132, 8, 1, 167, 254, 230, 28, 154, 0, 8, 21, 5, 167, 0, 15, 28, 4, 160, 0, 8, 21, 6]
abbrev dktX5_worst_16 : List UInt8 := dkwX5_worst_16 ++ dktX5_worst_17
def dkwX5_worst_15 : List UInt8 := [100, 21, 4, 164, 0, 22, 21, 11, 21, 13, 100, 54, 4, 21, 10, 54, 5, 21, 11, 54, 6, 21, 13]
abbrev dktX5_worst_15 : List UInt8 := dkwX5_worst_15 ++ dktX5_worst_16
def dkwX5_worst_14 : List UInt8 := [132, 13, 1, 167, 255, 94, 42, 180, 0, 49, 17, 2, 0, 27, 104, 184, 0, 187, 54, 13, 21, 11, 21, 13]
abbrev dktX5_worst_14 : List UInt8 := dkwX5_worst_14 ++ dktX5_worst_15
def dkwX5_worst_13 : List UInt8 := [21, 16, 96, 79, 42, 180, 0, 72, 21, 15, 21, 14, 79, 16, 8, 21, 10, 104, 21, 14, 96, 54, 10]
abbrev dktX5_worst_13 : List UInt8 := dkwX5_worst_13 ++ dktX5_worst_14
def dkwX5_worst_12 : List UInt8 := [21, 13, 104, 21, 14, 182, 0, 147, 21, 11, 21, 16, 96, 54, 11, 42, 180, 0, 75, 21, 15, 92, 46]
abbrev dktX5_worst_12 : List UInt8 := dkwX5_worst_12 ++ dktX5_worst_13
def dkwX5_worst_11 : List UInt8 := [16, 6, 42, 180, 0, 72, 21, 15, 46, 104, 21, 14, 96, 46, 54, 16, 42, 42, 180, 0, 49, 17, 2, 0]
abbrev dktX5_worst_11 : List UInt8 := dkwX5_worst_11 ++ dktX5_worst_12
def dkwX5_worst_10 : List UInt8 := [180, 0, 72, 21, 14, 182, 0, 130, 154, 0, 8, 21, 15, 167, 0, 5, 21, 9, 54, 9, 42, 180, 0, 19]
abbrev dktX5_worst_10 : List UInt8 := dkwX5_worst_10 ++ dktX5_worst_11
def dkwX5_worst_9 : List UInt8 := [17, 2, 0, 21, 13, 104, 21, 14, 182, 0, 175, 54, 15, 42, 180, 0, 138, 5, 160, 0, 21, 42, 42]
abbrev dktX5_worst_9 : List UInt8 := dkwX5_worst_9 ++ dktX5_worst_10
def dkwX5_worst_8 : List UInt8 := [108, 42, 180, 0, 82, 112, 54, 14, 42, 42, 180, 0, 72, 42, 180, 0, 75, 21, 9, 42, 180, 0, 49]
abbrev dktX5_worst_8 : List UInt8 := dkwX5_worst_8 ++ dktX5_worst_9
def dkwX5_worst_7 : List UInt8 := [54, 12, 3, 54, 13, 21, 13, 27, 162, 0, 162, 21, 12, 42, 180, 0, 82, 108, 54, 12, 21, 8, 21, 12]
abbrev dktX5_worst_7 : List UInt8 := dkwX5_worst_7 ++ dktX5_worst_8
def dkwX5_worst_6 : List UInt8 := [132, 9, 1, 167, 255, 220, 42, 42, 180, 0, 49, 182, 0, 171, 2, 54, 9, 3, 54, 10, 3, 54, 11, 29]
abbrev dktX5_worst_6 : List UInt8 := dkwX5_worst_6 ++ dktX5_worst_7
def dkwX5_worst_5 : List UInt8 := [21, 9, 42, 180, 0, 117, 6, 21, 9, 104, 122, 16, 7, 126, 79, 42, 180, 0, 75, 21, 9, 3, 79]
abbrev dktX5_worst_5 : List UInt8 := dkwX5_worst_5 ++ dktX5_worst_6
def dkwX5_worst_4 : List UInt8 := [54, 7, 3, 54, 8, 21, 8, 29, 162, 1, 26, 3, 54, 9, 21, 9, 6, 162, 0, 36, 42, 180, 0, 72]
abbrev dktX5_worst_4 : List UInt8 := dkwX5_worst_4 ++ dktX5_worst_5
def dkwX5_worst_3 : List UInt8 := [180, 0, 82, 42, 180, 0, 82, 104, 42, 180, 0, 82, 104, 62, 2, 54, 4, 3, 54, 5, 3, 54, 6, 3]
abbrev dktX5_worst_3 : List UInt8 := dkwX5_worst_3 ++ dktX5_worst_4
def dkwX5_worst_2 : List UInt8 := [180, 0, 82, 167, 0, 34, 27, 5, 160, 0, 15, 42, 180, 0, 82, 42, 180, 0, 82, 104, 167, 0, 17, 42]
abbrev dktX5_worst_2 : List UInt8 := dkwX5_worst_2 ++ dktX5_worst_3
def dkwX5_worst_1 : List UInt8 := [153, 0, 15, 28, 133, 9, 20, 0, 190, 184, 0, 85, 154, 0, 5, 2, 172, 27, 4, 160, 0, 10, 42]
abbrev dktX5_worst_1 : List UInt8 := dkwX5_worst_1 ++ dktX5_worst_2
def dkwX5_worst_0 : List UInt8 := [42, 3, 181, 0, 78, 42, 180, 0, 96, 154, 0, 6, 16, 254, 172, 27, 133, 10, 20, 0, 155, 184, 0, 85]
abbrev dktX5_worst_0 : List UInt8 := dkwX5_worst_0 ++ dktX5_worst_1
theorem dksX5_worst_0 : cX5_worst.data.toList.drop 0 = dktX5_worst_0 := by decide +kernel
theorem dksX5_worst_1 : cX5_worst.data.toList.drop 24 = dktX5_worst_1 := dk_seg dksX5_worst_0 24 rfl rfl
theorem dksX5_worst_2 : cX5_worst.data.toList.drop 47 = dktX5_worst_2 := dk_seg dksX5_worst_1 23 rfl rfl
theorem dksX5_worst_3 : cX5_worst.data.toList.drop 71 = dktX5_worst_3 := dk_seg dksX5_worst_2 24 rfl rfl
theorem dksX5_worst_4 : cX5_worst.data.toList.drop 95 = dktX5_worst_4 := dk_seg dksX5_worst_3 24 rfl rfl
theorem dksX5_worst_5 : cX5_worst.data.toList.drop 119 = dktX5_worst_5 := dk_seg dksX5_worst_4 24 rfl rfl
theorem dksX5_worst_6 : cX5_worst.data.toList.drop 142 = dktX5_worst_6 := dk_seg dksX5_worst_5 23 rfl rfl
theorem dksX5_worst_7 : cX5_worst.data.toList.drop 166 = dktX5_worst_7 := dk_seg dksX5_worst_6 24 rfl rfl
theorem dksX5_worst_8 : cX5_worst.data.toList.drop 190 = dktX5_worst_8 := dk_seg dksX5_worst_7 24 rfl rfl
theorem dksX5_worst_9 : cX5_worst.data.toList.drop 213 = dktX5_worst_9 := dk_seg dksX5_worst_8 23 rfl rfl
theorem dksX5_worst_10 : cX5_worst.data.toList.drop 236 = dktX5_worst_10 := dk_seg dksX5_worst_9 23 rfl rfl
theorem dksX5_worst_11 : cX5_worst.data.toList.drop 260 = dktX5_worst_11 := dk_seg dksX5_worst_10 24 rfl rfl
theorem dksX5_worst_12 : cX5_worst.data.toList.drop 284 = dktX5_worst_12 := dk_seg dksX5_worst_11 24 rfl rfl
theorem dksX5_worst_13 : cX5_worst.data.toList.drop 307 = dktX5_worst_13 := dk_seg dksX5_worst_12 23 rfl rfl
theorem dksX5_worst_14 : cX5_worst.data.toList.drop 330 = dktX5_worst_14 := dk_seg dksX5_worst_13 23 rfl rfl
theorem dksX5_worst_15 : cX5_worst.data.toList.drop 354 = dktX5_worst_15 := dk_seg dksX5_worst_14 24 rfl rfl
theorem dksX5_worst_16 : cX5_worst.data.toList.drop 377 = dktX5_worst_16 := dk_seg dksX5_worst_15 23 rfl rfl
theorem dksX5_worst_17 : cX5_worst.data.toList.drop 401 = dktX5_worst_17 := dk_seg dksX5_worst_16 24 rfl rfl
theorem dX5_worst_0 : decode cX5_worst 0 = .ok (.aload_n 0, 1) := dk_42 (dk_at dksX5_worst_0 0 rfl rfl)
theorem dX5_worst_1 : decode cX5_worst 1 = .ok (.iconst 0, 1) := dk_3 (dk_at dksX5_worst_0 1 rfl rfl)
theorem dX5_worst_2 : decode cX5_worst 2 = .ok (.putfield 78, 3) := dk_181 0 78 (dk_at dksX5_worst_0 2 rfl rfl)
theorem dX5_worst_5 : decode cX5_worst 5 = .ok (.aload_n 0, 1) := dk_42 (dk_at dksX5_worst_0 5 rfl rfl)
theorem dX5_worst_6 : decode cX5_worst 6 = .ok (.getfield 96, 3) := dk_180 0 96 (dk_at dksX5_worst_0 6 rfl rfl)
theorem dX5_worst_9 : decode cX5_worst 9 = .ok (.ifCond .ne 6, 3) := dk_154 0 6 (dk_at dksX5_worst_0 9 rfl rfl)
theorem dX5_worst_12 : decode cX5_worst 12 = .ok (.bipush (-2), 2) := dk_16 254 (dk_at dksX5_worst_0 12 rfl rfl)
theorem dX5_worst_14 : decode cX5_worst 14 = .ok (.ireturn, 1) := dk_172 (dk_at dksX5_worst_0 14 rfl rfl)
theorem dX5_worst_15 : decode cX5_worst 15 = .ok (.iload_n 1, 1) := dk_27 (dk_at dksX5_worst_0 15 rfl rfl)
theorem dX5_worst_16 : decode cX5_worst 16 = .ok (.i2l, 1) := dk_133 (dk_at dksX5_worst_0 16 rfl rfl)
theorem dX5_worst_17 : decode cX5_worst 17 = .ok (.lconst 1, 1) := dk_10 (dk_at dksX5_worst_0 17 rfl rfl)
theorem dX5_worst_18 : decode cX5_worst 18 = .ok (.ldc2_w 155, 3) := dk_20 0 155 (dk_at dksX5_worst_0 18 rfl rfl)
theorem dX5_worst_21 : decode cX5_worst 21 = .ok (.invokestatic 85, 3) := dk_184 0 85 (dk_at dksX5_worst_0 21 rfl rfl)
theorem dX5_worst_24 : decode cX5_worst 24 = .ok (.ifCond .eq 15, 3) := dk_153 0 15 (dk_at dksX5_worst_1 0 rfl rfl)
theorem dX5_worst_27 : decode cX5_worst 27 = .ok (.iload_n 2, 1) := dk_28 (dk_at dksX5_worst_1 3 rfl rfl)
theorem dX5_worst_28 : decode cX5_worst 28 = .ok (.i2l, 1) := dk_133 (dk_at dksX5_worst_1 4 rfl rfl)
theorem dX5_worst_29 : decode cX5_worst 29 = .ok (.lconst 0, 1) := dk_9 (dk_at dksX5_worst_1 5 rfl rfl)
theorem dX5_worst_30 : decode cX5_worst 30 = .ok (.ldc2_w 190, 3) := dk_20 0 190 (dk_at dksX5_worst_1 6 rfl rfl)
theorem dX5_worst_33 : decode cX5_worst 33 = .ok (.invokestatic 85, 3) := dk_184 0 85 (dk_at dksX5_worst_1 9 rfl rfl)
theorem dX5_worst_36 : decode cX5_worst 36 = .ok (.ifCond .ne 5, 3) := dk_154 0 5 (dk_at dksX5_worst_1 12 rfl rfl)
theorem dX5_worst_39 : decode cX5_worst 39 = .ok (.iconst (-1), 1) := dk_2 (dk_at dksX5_worst_1 15 rfl rfl)
theorem dX5_worst_40 : decode cX5_worst 40 = .ok (.ireturn, 1) := dk_172 (dk_at dksX5_worst_1 16 rfl rfl)
theorem dX5_worst_41 : decode cX5_worst 41 = .ok (.iload_n 1, 1) := dk_27 (dk_at dksX5_worst_1 17 rfl rfl)
theorem dX5_worst_42 : decode cX5_worst 42 = .ok (.iconst 1, 1) := dk_4 (dk_at dksX5_worst_1 18 rfl rfl)
theorem dX5_worst_43 : decode cX5_worst 43 = .ok (.if_icmp .ne 10, 3) := dk_160 0 10 (dk_at dksX5_worst_1 19 rfl rfl)
theorem dX5_worst_46 : decode cX5_worst 46 = .ok (.aload_n 0, 1) := dk_42 (dk_at dksX5_worst_1 22 rfl rfl)
theorem dX5_worst_47 : decode cX5_worst 47 = .ok (.getfield 82, 3) := dk_180 0 82 (dk_at dksX5_worst_2 0 rfl rfl)
theorem dX5_worst_50 : decode cX5_worst 50 = .ok (.goto 34, 3) := dk_167 0 34 (dk_at dksX5_worst_2 3 rfl rfl)
theorem dX5_worst_53 : decode cX5_worst 53 = .ok (.iload_n 1, 1) := dk_27 (dk_at dksX5_worst_2 6 rfl rfl)
theorem dX5_worst_54 : decode cX5_worst 54 = .ok (.iconst 2, 1) := dk_5 (dk_at dksX5_worst_2 7 rfl rfl)
theorem dX5_worst_55 : decode cX5_worst 55 = .ok (.if_icmp .ne 15, 3) := dk_160 0 15 (dk_at dksX5_worst_2 8 rfl rfl)
theorem dX5_worst_58 : decode cX5_worst 58 = .ok (.aload_n 0, 1) := dk_42 (dk_at dksX5_worst_2 11 rfl rfl)
theorem dX5_worst_59 : decode cX5_worst 59 = .ok (.getfield 82, 3) := dk_180 0 82 (dk_at dksX5_worst_2 12 rfl rfl)
theorem dX5_worst_62 : decode cX5_worst 62 = .ok (.aload_n 0, 1) := dk_42 (dk_at dksX5_worst_2 15 rfl rfl)
theorem dX5_worst_63 : decode cX5_worst 63 = .ok (.getfield 82, 3) := dk_180 0 82 (dk_at dksX5_worst_2 16 rfl rfl)
theorem dX5_worst_66 : decode cX5_worst 66 = .ok (.imul, 1) := dk_104 (dk_at dksX5_worst_2 19 rfl rfl)
theorem dX5_worst_67 : decode cX5_worst 67 = .ok (.goto 17, 3) := dk_167 0 17 (dk_at dksX5_worst_2 20 rfl rfl)
theorem dX5_worst_70 : decode cX5_worst 70 = .ok (.aload_n 0, 1) := dk_42 (dk_at dksX5_worst_2 23 rfl rfl)
theorem dX5_worst_71 : decode cX5_worst 71 = .ok (.getfield 82, 3) := dk_180 0 82 (dk_at dksX5_worst_3 0 rfl rfl)
theorem dX5_worst_74 : decode cX5_worst 74 = .ok (.aload_n 0, 1) := dk_42 (dk_at dksX5_worst_3 3 rfl rfl)
theorem dX5_worst_75 : decode cX5_worst 75 = .ok (.getfield 82, 3) := dk_180 0 82 (dk_at dksX5_worst_3 4 rfl rfl)
theorem dX5_worst_78 : decode cX5_worst 78 = .ok (.imul, 1) := dk_104 (dk_at dksX5_worst_3 7 rfl rfl)
theorem dX5_worst_79 : decode cX5_worst 79 = .ok (.aload_n 0, 1) := dk_42 (dk_at dksX5_worst_3 8 rfl rfl)
theorem dX5_worst_80 : decode cX5_worst 80 = .ok (.getfield 82, 3) := dk_180 0 82 (dk_at dksX5_worst_3 9 rfl rfl)
theorem dX5_worst_83 : decode cX5_worst 83 = .ok (.imul, 1) := dk_104 (dk_at dksX5_worst_3 12 rfl rfl)
theorem dX5_worst_84 : decode cX5_worst 84 = .ok (.istore_n 3, 1) := dk_62 (dk_at dksX5_worst_3 13 rfl rfl)
theorem dX5_worst_85 : decode cX5_worst 85 = .ok (.iconst (-1), 1) := dk_2 (dk_at dksX5_worst_3 14 rfl rfl)
theorem dX5_worst_86 : decode cX5_worst 86 = .ok (.istore 4, 2) := dk_54 4 (dk_at dksX5_worst_3 15 rfl rfl)
theorem dX5_worst_88 : decode cX5_worst 88 = .ok (.iconst 0, 1) := dk_3 (dk_at dksX5_worst_3 17 rfl rfl)
theorem dX5_worst_89 : decode cX5_worst 89 = .ok (.istore 5, 2) := dk_54 5 (dk_at dksX5_worst_3 18 rfl rfl)
theorem dX5_worst_91 : decode cX5_worst 91 = .ok (.iconst 0, 1) := dk_3 (dk_at dksX5_worst_3 20 rfl rfl)
theorem dX5_worst_92 : decode cX5_worst 92 = .ok (.istore 6, 2) := dk_54 6 (dk_at dksX5_worst_3 21 rfl rfl)
theorem dX5_worst_94 : decode cX5_worst 94 = .ok (.iconst 0, 1) := dk_3 (dk_at dksX5_worst_3 23 rfl rfl)
theorem dX5_worst_95 : decode cX5_worst 95 = .ok (.istore 7, 2) := dk_54 7 (dk_at dksX5_worst_4 0 rfl rfl)
theorem dX5_worst_97 : decode cX5_worst 97 = .ok (.iconst 0, 1) := dk_3 (dk_at dksX5_worst_4 2 rfl rfl)
theorem dX5_worst_98 : decode cX5_worst 98 = .ok (.istore 8, 2) := dk_54 8 (dk_at dksX5_worst_4 3 rfl rfl)
theorem dX5_worst_100 : decode cX5_worst 100 = .ok (.iload 8, 2) := dk_21 8 (dk_at dksX5_worst_4 5 rfl rfl)
theorem dX5_worst_102 : decode cX5_worst 102 = .ok (.iload_n 3, 1) := dk_29 (dk_at dksX5_worst_4 7 rfl rfl)
theorem dX5_worst_103 : decode cX5_worst 103 = .ok (.if_icmp .ge 282, 3) := dk_162 1 26 (dk_at dksX5_worst_4 8 rfl rfl)
theorem dX5_worst_106 : decode cX5_worst 106 = .ok (.iconst 0, 1) := dk_3 (dk_at dksX5_worst_4 11 rfl rfl)
theorem dX5_worst_107 : decode cX5_worst 107 = .ok (.istore 9, 2) := dk_54 9 (dk_at dksX5_worst_4 12 rfl rfl)
theorem dX5_worst_109 : decode cX5_worst 109 = .ok (.iload 9, 2) := dk_21 9 (dk_at dksX5_worst_4 14 rfl rfl)
theorem dX5_worst_111 : decode cX5_worst 111 = .ok (.iconst 3, 1) := dk_6 (dk_at dksX5_worst_4 16 rfl rfl)
theorem dX5_worst_112 : decode cX5_worst 112 = .ok (.if_icmp .ge 36, 3) := dk_162 0 36 (dk_at dksX5_worst_4 17 rfl rfl)
theorem dX5_worst_115 : decode cX5_worst 115 = .ok (.aload_n 0, 1) := dk_42 (dk_at dksX5_worst_4 20 rfl rfl)
theorem dX5_worst_116 : decode cX5_worst 116 = .ok (.getfield 72, 3) := dk_180 0 72 (dk_at dksX5_worst_4 21 rfl rfl)
theorem dX5_worst_119 : decode cX5_worst 119 = .ok (.iload 9, 2) := dk_21 9 (dk_at dksX5_worst_5 0 rfl rfl)
theorem dX5_worst_121 : decode cX5_worst 121 = .ok (.aload_n 0, 1) := dk_42 (dk_at dksX5_worst_5 2 rfl rfl)
theorem dX5_worst_122 : decode cX5_worst 122 = .ok (.getfield 117, 3) := dk_180 0 117 (dk_at dksX5_worst_5 3 rfl rfl)
theorem dX5_worst_125 : decode cX5_worst 125 = .ok (.iconst 3, 1) := dk_6 (dk_at dksX5_worst_5 6 rfl rfl)
theorem dX5_worst_126 : decode cX5_worst 126 = .ok (.iload 9, 2) := dk_21 9 (dk_at dksX5_worst_5 7 rfl rfl)
theorem dX5_worst_128 : decode cX5_worst 128 = .ok (.imul, 1) := dk_104 (dk_at dksX5_worst_5 9 rfl rfl)
theorem dX5_worst_129 : decode cX5_worst 129 = .ok (.ishr, 1) := dk_122 (dk_at dksX5_worst_5 10 rfl rfl)
theorem dX5_worst_130 : decode cX5_worst 130 = .ok (.bipush 7, 2) := dk_16 7 (dk_at dksX5_worst_5 11 rfl rfl)
theorem dX5_worst_132 : decode cX5_worst 132 = .ok (.iand, 1) := dk_126 (dk_at dksX5_worst_5 13 rfl rfl)
theorem dX5_worst_133 : decode cX5_worst 133 = .ok (.iastore, 1) := dk_79 (dk_at dksX5_worst_5 14 rfl rfl)
theorem dX5_worst_134 : decode cX5_worst 134 = .ok (.aload_n 0, 1) := dk_42 (dk_at dksX5_worst_5 15 rfl rfl)
theorem dX5_worst_135 : decode cX5_worst 135 = .ok (.getfield 75, 3) := dk_180 0 75 (dk_at dksX5_worst_5 16 rfl rfl)
theorem dX5_worst_138 : decode cX5_worst 138 = .ok (.iload 9, 2) := dk_21 9 (dk_at dksX5_worst_5 19 rfl rfl)
theorem dX5_worst_140 : decode cX5_worst 140 = .ok (.iconst 0, 1) := dk_3 (dk_at dksX5_worst_5 21 rfl rfl)
theorem dX5_worst_141 : decode cX5_worst 141 = .ok (.iastore, 1) := dk_79 (dk_at dksX5_worst_5 22 rfl rfl)
theorem dX5_worst_142 : decode cX5_worst 142 = .ok (.iinc 9 1, 3) := dk_132 9 1 (dk_at dksX5_worst_6 0 rfl rfl)
theorem dX5_worst_145 : decode cX5_worst 145 = .ok (.goto (-36), 3) := dk_167 255 220 (dk_at dksX5_worst_6 3 rfl rfl)
theorem dX5_worst_148 : decode cX5_worst 148 = .ok (.aload_n 0, 1) := dk_42 (dk_at dksX5_worst_6 6 rfl rfl)
theorem dX5_worst_149 : decode cX5_worst 149 = .ok (.aload_n 0, 1) := dk_42 (dk_at dksX5_worst_6 7 rfl rfl)
theorem dX5_worst_150 : decode cX5_worst 150 = .ok (.getfield 49, 3) := dk_180 0 49 (dk_at dksX5_worst_6 8 rfl rfl)
theorem dX5_worst_153 : decode cX5_worst 153 = .ok (.invokevirtual 171, 3) := dk_182 0 171 (dk_at dksX5_worst_6 11 rfl rfl)
theorem dX5_worst_156 : decode cX5_worst 156 = .ok (.iconst (-1), 1) := dk_2 (dk_at dksX5_worst_6 14 rfl rfl)
theorem dX5_worst_157 : decode cX5_worst 157 = .ok (.istore 9, 2) := dk_54 9 (dk_at dksX5_worst_6 15 rfl rfl)
theorem dX5_worst_159 : decode cX5_worst 159 = .ok (.iconst 0, 1) := dk_3 (dk_at dksX5_worst_6 17 rfl rfl)
theorem dX5_worst_160 : decode cX5_worst 160 = .ok (.istore 10, 2) := dk_54 10 (dk_at dksX5_worst_6 18 rfl rfl)
theorem dX5_worst_162 : decode cX5_worst 162 = .ok (.iconst 0, 1) := dk_3 (dk_at dksX5_worst_6 20 rfl rfl)
theorem dX5_worst_163 : decode cX5_worst 163 = .ok (.istore 11, 2) := dk_54 11 (dk_at dksX5_worst_6 21 rfl rfl)
theorem dX5_worst_165 : decode cX5_worst 165 = .ok (.iload_n 3, 1) := dk_29 (dk_at dksX5_worst_6 23 rfl rfl)
theorem dX5_worst_166 : decode cX5_worst 166 = .ok (.istore 12, 2) := dk_54 12 (dk_at dksX5_worst_7 0 rfl rfl)
theorem dX5_worst_168 : decode cX5_worst 168 = .ok (.iconst 0, 1) := dk_3 (dk_at dksX5_worst_7 2 rfl rfl)
theorem dX5_worst_169 : decode cX5_worst 169 = .ok (.istore 13, 2) := dk_54 13 (dk_at dksX5_worst_7 3 rfl rfl)
theorem dX5_worst_171 : decode cX5_worst 171 = .ok (.iload 13, 2) := dk_21 13 (dk_at dksX5_worst_7 5 rfl rfl)
theorem dX5_worst_173 : decode cX5_worst 173 = .ok (.iload_n 1, 1) := dk_27 (dk_at dksX5_worst_7 7 rfl rfl)
theorem dX5_worst_174 : decode cX5_worst 174 = .ok (.if_icmp .ge 162, 3) := dk_162 0 162 (dk_at dksX5_worst_7 8 rfl rfl)
theorem dX5_worst_177 : decode cX5_worst 177 = .ok (.iload 12, 2) := dk_21 12 (dk_at dksX5_worst_7 11 rfl rfl)
theorem dX5_worst_179 : decode cX5_worst 179 = .ok (.aload_n 0, 1) := dk_42 (dk_at dksX5_worst_7 13 rfl rfl)
theorem dX5_worst_180 : decode cX5_worst 180 = .ok (.getfield 82, 3) := dk_180 0 82 (dk_at dksX5_worst_7 14 rfl rfl)
theorem dX5_worst_183 : decode cX5_worst 183 = .ok (.idiv, 1) := dk_108 (dk_at dksX5_worst_7 17 rfl rfl)
theorem dX5_worst_184 : decode cX5_worst 184 = .ok (.istore 12, 2) := dk_54 12 (dk_at dksX5_worst_7 18 rfl rfl)
theorem dX5_worst_186 : decode cX5_worst 186 = .ok (.iload 8, 2) := dk_21 8 (dk_at dksX5_worst_7 20 rfl rfl)
theorem dX5_worst_188 : decode cX5_worst 188 = .ok (.iload 12, 2) := dk_21 12 (dk_at dksX5_worst_7 22 rfl rfl)
theorem dX5_worst_190 : decode cX5_worst 190 = .ok (.idiv, 1) := dk_108 (dk_at dksX5_worst_8 0 rfl rfl)
theorem dX5_worst_191 : decode cX5_worst 191 = .ok (.aload_n 0, 1) := dk_42 (dk_at dksX5_worst_8 1 rfl rfl)
theorem dX5_worst_192 : decode cX5_worst 192 = .ok (.getfield 82, 3) := dk_180 0 82 (dk_at dksX5_worst_8 2 rfl rfl)
theorem dX5_worst_195 : decode cX5_worst 195 = .ok (.irem, 1) := dk_112 (dk_at dksX5_worst_8 5 rfl rfl)
theorem dX5_worst_196 : decode cX5_worst 196 = .ok (.istore 14, 2) := dk_54 14 (dk_at dksX5_worst_8 6 rfl rfl)
theorem dX5_worst_198 : decode cX5_worst 198 = .ok (.aload_n 0, 1) := dk_42 (dk_at dksX5_worst_8 8 rfl rfl)
theorem dX5_worst_199 : decode cX5_worst 199 = .ok (.aload_n 0, 1) := dk_42 (dk_at dksX5_worst_8 9 rfl rfl)
theorem dX5_worst_200 : decode cX5_worst 200 = .ok (.getfield 72, 3) := dk_180 0 72 (dk_at dksX5_worst_8 10 rfl rfl)
theorem dX5_worst_203 : decode cX5_worst 203 = .ok (.aload_n 0, 1) := dk_42 (dk_at dksX5_worst_8 13 rfl rfl)
theorem dX5_worst_204 : decode cX5_worst 204 = .ok (.getfield 75, 3) := dk_180 0 75 (dk_at dksX5_worst_8 14 rfl rfl)
theorem dX5_worst_207 : decode cX5_worst 207 = .ok (.iload 9, 2) := dk_21 9 (dk_at dksX5_worst_8 17 rfl rfl)
theorem dX5_worst_209 : decode cX5_worst 209 = .ok (.aload_n 0, 1) := dk_42 (dk_at dksX5_worst_8 19 rfl rfl)
theorem dX5_worst_210 : decode cX5_worst 210 = .ok (.getfield 49, 3) := dk_180 0 49 (dk_at dksX5_worst_8 20 rfl rfl)
theorem dX5_worst_213 : decode cX5_worst 213 = .ok (.sipush 512, 3) := dk_17 2 0 (dk_at dksX5_worst_9 0 rfl rfl)
theorem dX5_worst_216 : decode cX5_worst 216 = .ok (.iload 13, 2) := dk_21 13 (dk_at dksX5_worst_9 3 rfl rfl)
theorem dX5_worst_218 : decode cX5_worst 218 = .ok (.imul, 1) := dk_104 (dk_at dksX5_worst_9 5 rfl rfl)
theorem dX5_worst_219 : decode cX5_worst 219 = .ok (.iload 14, 2) := dk_21 14 (dk_at dksX5_worst_9 6 rfl rfl)
theorem dX5_worst_221 : decode cX5_worst 221 = .ok (.invokevirtual 175, 3) := dk_182 0 175 (dk_at dksX5_worst_9 8 rfl rfl)
theorem dX5_worst_224 : decode cX5_worst 224 = .ok (.istore 15, 2) := dk_54 15 (dk_at dksX5_worst_9 11 rfl rfl)
theorem dX5_worst_226 : decode cX5_worst 226 = .ok (.aload_n 0, 1) := dk_42 (dk_at dksX5_worst_9 13 rfl rfl)
theorem dX5_worst_227 : decode cX5_worst 227 = .ok (.getfield 138, 3) := dk_180 0 138 (dk_at dksX5_worst_9 14 rfl rfl)
theorem dX5_worst_230 : decode cX5_worst 230 = .ok (.iconst 2, 1) := dk_5 (dk_at dksX5_worst_9 17 rfl rfl)
theorem dX5_worst_231 : decode cX5_worst 231 = .ok (.if_icmp .ne 21, 3) := dk_160 0 21 (dk_at dksX5_worst_9 18 rfl rfl)
theorem dX5_worst_234 : decode cX5_worst 234 = .ok (.aload_n 0, 1) := dk_42 (dk_at dksX5_worst_9 21 rfl rfl)
theorem dX5_worst_235 : decode cX5_worst 235 = .ok (.aload_n 0, 1) := dk_42 (dk_at dksX5_worst_9 22 rfl rfl)
theorem dX5_worst_236 : decode cX5_worst 236 = .ok (.getfield 72, 3) := dk_180 0 72 (dk_at dksX5_worst_10 0 rfl rfl)
theorem dX5_worst_239 : decode cX5_worst 239 = .ok (.iload 14, 2) := dk_21 14 (dk_at dksX5_worst_10 3 rfl rfl)
theorem dX5_worst_241 : decode cX5_worst 241 = .ok (.invokevirtual 130, 3) := dk_182 0 130 (dk_at dksX5_worst_10 5 rfl rfl)
theorem dX5_worst_244 : decode cX5_worst 244 = .ok (.ifCond .ne 8, 3) := dk_154 0 8 (dk_at dksX5_worst_10 8 rfl rfl)
theorem dX5_worst_247 : decode cX5_worst 247 = .ok (.iload 15, 2) := dk_21 15 (dk_at dksX5_worst_10 11 rfl rfl)
theorem dX5_worst_249 : decode cX5_worst 249 = .ok (.goto 5, 3) := dk_167 0 5 (dk_at dksX5_worst_10 13 rfl rfl)
theorem dX5_worst_252 : decode cX5_worst 252 = .ok (.iload 9, 2) := dk_21 9 (dk_at dksX5_worst_10 16 rfl rfl)
theorem dX5_worst_254 : decode cX5_worst 254 = .ok (.istore 9, 2) := dk_54 9 (dk_at dksX5_worst_10 18 rfl rfl)
theorem dX5_worst_256 : decode cX5_worst 256 = .ok (.aload_n 0, 1) := dk_42 (dk_at dksX5_worst_10 20 rfl rfl)
theorem dX5_worst_257 : decode cX5_worst 257 = .ok (.getfield 19, 3) := dk_180 0 19 (dk_at dksX5_worst_10 21 rfl rfl)
theorem dX5_worst_260 : decode cX5_worst 260 = .ok (.bipush 6, 2) := dk_16 6 (dk_at dksX5_worst_11 0 rfl rfl)
theorem dX5_worst_262 : decode cX5_worst 262 = .ok (.aload_n 0, 1) := dk_42 (dk_at dksX5_worst_11 2 rfl rfl)
theorem dX5_worst_263 : decode cX5_worst 263 = .ok (.getfield 72, 3) := dk_180 0 72 (dk_at dksX5_worst_11 3 rfl rfl)
theorem dX5_worst_266 : decode cX5_worst 266 = .ok (.iload 15, 2) := dk_21 15 (dk_at dksX5_worst_11 6 rfl rfl)
theorem dX5_worst_268 : decode cX5_worst 268 = .ok (.iaload, 1) := dk_46 (dk_at dksX5_worst_11 8 rfl rfl)
theorem dX5_worst_269 : decode cX5_worst 269 = .ok (.imul, 1) := dk_104 (dk_at dksX5_worst_11 9 rfl rfl)
theorem dX5_worst_270 : decode cX5_worst 270 = .ok (.iload 14, 2) := dk_21 14 (dk_at dksX5_worst_11 10 rfl rfl)
theorem dX5_worst_272 : decode cX5_worst 272 = .ok (.iadd, 1) := dk_96 (dk_at dksX5_worst_11 12 rfl rfl)
theorem dX5_worst_273 : decode cX5_worst 273 = .ok (.iaload, 1) := dk_46 (dk_at dksX5_worst_11 13 rfl rfl)
theorem dX5_worst_274 : decode cX5_worst 274 = .ok (.istore 16, 2) := dk_54 16 (dk_at dksX5_worst_11 14 rfl rfl)
theorem dX5_worst_276 : decode cX5_worst 276 = .ok (.aload_n 0, 1) := dk_42 (dk_at dksX5_worst_11 16 rfl rfl)
theorem dX5_worst_277 : decode cX5_worst 277 = .ok (.aload_n 0, 1) := dk_42 (dk_at dksX5_worst_11 17 rfl rfl)
theorem dX5_worst_278 : decode cX5_worst 278 = .ok (.getfield 49, 3) := dk_180 0 49 (dk_at dksX5_worst_11 18 rfl rfl)
theorem dX5_worst_281 : decode cX5_worst 281 = .ok (.sipush 512, 3) := dk_17 2 0 (dk_at dksX5_worst_11 21 rfl rfl)
theorem dX5_worst_284 : decode cX5_worst 284 = .ok (.iload 13, 2) := dk_21 13 (dk_at dksX5_worst_12 0 rfl rfl)
theorem dX5_worst_286 : decode cX5_worst 286 = .ok (.imul, 1) := dk_104 (dk_at dksX5_worst_12 2 rfl rfl)
theorem dX5_worst_287 : decode cX5_worst 287 = .ok (.iload 14, 2) := dk_21 14 (dk_at dksX5_worst_12 3 rfl rfl)
theorem dX5_worst_289 : decode cX5_worst 289 = .ok (.invokevirtual 147, 3) := dk_182 0 147 (dk_at dksX5_worst_12 5 rfl rfl)
theorem dX5_worst_292 : decode cX5_worst 292 = .ok (.iload 11, 2) := dk_21 11 (dk_at dksX5_worst_12 8 rfl rfl)
theorem dX5_worst_294 : decode cX5_worst 294 = .ok (.iload 16, 2) := dk_21 16 (dk_at dksX5_worst_12 10 rfl rfl)
theorem dX5_worst_296 : decode cX5_worst 296 = .ok (.iadd, 1) := dk_96 (dk_at dksX5_worst_12 12 rfl rfl)
theorem dX5_worst_297 : decode cX5_worst 297 = .ok (.istore 11, 2) := dk_54 11 (dk_at dksX5_worst_12 13 rfl rfl)
theorem dX5_worst_299 : decode cX5_worst 299 = .ok (.aload_n 0, 1) := dk_42 (dk_at dksX5_worst_12 15 rfl rfl)
theorem dX5_worst_300 : decode cX5_worst 300 = .ok (.getfield 75, 3) := dk_180 0 75 (dk_at dksX5_worst_12 16 rfl rfl)
theorem dX5_worst_303 : decode cX5_worst 303 = .ok (.iload 15, 2) := dk_21 15 (dk_at dksX5_worst_12 19 rfl rfl)
theorem dX5_worst_305 : decode cX5_worst 305 = .ok (.dup2, 1) := dk_92 (dk_at dksX5_worst_12 21 rfl rfl)
theorem dX5_worst_306 : decode cX5_worst 306 = .ok (.iaload, 1) := dk_46 (dk_at dksX5_worst_12 22 rfl rfl)
theorem dX5_worst_307 : decode cX5_worst 307 = .ok (.iload 16, 2) := dk_21 16 (dk_at dksX5_worst_13 0 rfl rfl)
theorem dX5_worst_309 : decode cX5_worst 309 = .ok (.iadd, 1) := dk_96 (dk_at dksX5_worst_13 2 rfl rfl)
theorem dX5_worst_310 : decode cX5_worst 310 = .ok (.iastore, 1) := dk_79 (dk_at dksX5_worst_13 3 rfl rfl)
theorem dX5_worst_311 : decode cX5_worst 311 = .ok (.aload_n 0, 1) := dk_42 (dk_at dksX5_worst_13 4 rfl rfl)
theorem dX5_worst_312 : decode cX5_worst 312 = .ok (.getfield 72, 3) := dk_180 0 72 (dk_at dksX5_worst_13 5 rfl rfl)
theorem dX5_worst_315 : decode cX5_worst 315 = .ok (.iload 15, 2) := dk_21 15 (dk_at dksX5_worst_13 8 rfl rfl)
theorem dX5_worst_317 : decode cX5_worst 317 = .ok (.iload 14, 2) := dk_21 14 (dk_at dksX5_worst_13 10 rfl rfl)
theorem dX5_worst_319 : decode cX5_worst 319 = .ok (.iastore, 1) := dk_79 (dk_at dksX5_worst_13 12 rfl rfl)
theorem dX5_worst_320 : decode cX5_worst 320 = .ok (.bipush 8, 2) := dk_16 8 (dk_at dksX5_worst_13 13 rfl rfl)
theorem dX5_worst_322 : decode cX5_worst 322 = .ok (.iload 10, 2) := dk_21 10 (dk_at dksX5_worst_13 15 rfl rfl)
theorem dX5_worst_324 : decode cX5_worst 324 = .ok (.imul, 1) := dk_104 (dk_at dksX5_worst_13 17 rfl rfl)
theorem dX5_worst_325 : decode cX5_worst 325 = .ok (.iload 14, 2) := dk_21 14 (dk_at dksX5_worst_13 18 rfl rfl)
theorem dX5_worst_327 : decode cX5_worst 327 = .ok (.iadd, 1) := dk_96 (dk_at dksX5_worst_13 20 rfl rfl)
theorem dX5_worst_328 : decode cX5_worst 328 = .ok (.istore 10, 2) := dk_54 10 (dk_at dksX5_worst_13 21 rfl rfl)
theorem dX5_worst_330 : decode cX5_worst 330 = .ok (.iinc 13 1, 3) := dk_132 13 1 (dk_at dksX5_worst_14 0 rfl rfl)
theorem dX5_worst_333 : decode cX5_worst 333 = .ok (.goto (-162), 3) := dk_167 255 94 (dk_at dksX5_worst_14 3 rfl rfl)
theorem dX5_worst_336 : decode cX5_worst 336 = .ok (.aload_n 0, 1) := dk_42 (dk_at dksX5_worst_14 6 rfl rfl)
theorem dX5_worst_337 : decode cX5_worst 337 = .ok (.getfield 49, 3) := dk_180 0 49 (dk_at dksX5_worst_14 7 rfl rfl)
theorem dX5_worst_340 : decode cX5_worst 340 = .ok (.sipush 512, 3) := dk_17 2 0 (dk_at dksX5_worst_14 10 rfl rfl)
theorem dX5_worst_343 : decode cX5_worst 343 = .ok (.iload_n 1, 1) := dk_27 (dk_at dksX5_worst_14 13 rfl rfl)
theorem dX5_worst_344 : decode cX5_worst 344 = .ok (.imul, 1) := dk_104 (dk_at dksX5_worst_14 14 rfl rfl)
theorem dX5_worst_345 : decode cX5_worst 345 = .ok (.invokestatic 187, 3) := dk_184 0 187 (dk_at dksX5_worst_14 15 rfl rfl)
theorem dX5_worst_348 : decode cX5_worst 348 = .ok (.istore 13, 2) := dk_54 13 (dk_at dksX5_worst_14 18 rfl rfl)
theorem dX5_worst_350 : decode cX5_worst 350 = .ok (.iload 11, 2) := dk_21 11 (dk_at dksX5_worst_14 20 rfl rfl)
theorem dX5_worst_352 : decode cX5_worst 352 = .ok (.iload 13, 2) := dk_21 13 (dk_at dksX5_worst_14 22 rfl rfl)
theorem dX5_worst_354 : decode cX5_worst 354 = .ok (.isub, 1) := dk_100 (dk_at dksX5_worst_15 0 rfl rfl)
theorem dX5_worst_355 : decode cX5_worst 355 = .ok (.iload 4, 2) := dk_21 4 (dk_at dksX5_worst_15 1 rfl rfl)
theorem dX5_worst_357 : decode cX5_worst 357 = .ok (.if_icmp .le 22, 3) := dk_164 0 22 (dk_at dksX5_worst_15 3 rfl rfl)
theorem dX5_worst_360 : decode cX5_worst 360 = .ok (.iload 11, 2) := dk_21 11 (dk_at dksX5_worst_15 6 rfl rfl)
theorem dX5_worst_362 : decode cX5_worst 362 = .ok (.iload 13, 2) := dk_21 13 (dk_at dksX5_worst_15 8 rfl rfl)
theorem dX5_worst_364 : decode cX5_worst 364 = .ok (.isub, 1) := dk_100 (dk_at dksX5_worst_15 10 rfl rfl)
theorem dX5_worst_365 : decode cX5_worst 365 = .ok (.istore 4, 2) := dk_54 4 (dk_at dksX5_worst_15 11 rfl rfl)
theorem dX5_worst_367 : decode cX5_worst 367 = .ok (.iload 10, 2) := dk_21 10 (dk_at dksX5_worst_15 13 rfl rfl)
theorem dX5_worst_369 : decode cX5_worst 369 = .ok (.istore 5, 2) := dk_54 5 (dk_at dksX5_worst_15 15 rfl rfl)
theorem dX5_worst_371 : decode cX5_worst 371 = .ok (.iload 11, 2) := dk_21 11 (dk_at dksX5_worst_15 17 rfl rfl)
theorem dX5_worst_373 : decode cX5_worst 373 = .ok (.istore 6, 2) := dk_54 6 (dk_at dksX5_worst_15 19 rfl rfl)
theorem dX5_worst_375 : decode cX5_worst 375 = .ok (.iload 13, 2) := dk_21 13 (dk_at dksX5_worst_15 21 rfl rfl)
theorem dX5_worst_377 : decode cX5_worst 377 = .ok (.istore 7, 2) := dk_54 7 (dk_at dksX5_worst_16 0 rfl rfl)
theorem dX5_worst_379 : decode cX5_worst 379 = .ok (.iinc 8 1, 3) := dk_132 8 1 (dk_at dksX5_worst_16 2 rfl rfl)
theorem dX5_worst_382 : decode cX5_worst 382 = .ok (.goto (-282), 3) := dk_167 254 230 (dk_at dksX5_worst_16 5 rfl rfl)
theorem dX5_worst_385 : decode cX5_worst 385 = .ok (.iload_n 2, 1) := dk_28 (dk_at dksX5_worst_16 8 rfl rfl)
theorem dX5_worst_386 : decode cX5_worst 386 = .ok (.ifCond .ne 8, 3) := dk_154 0 8 (dk_at dksX5_worst_16 9 rfl rfl)
theorem dX5_worst_389 : decode cX5_worst 389 = .ok (.iload 5, 2) := dk_21 5 (dk_at dksX5_worst_16 12 rfl rfl)
theorem dX5_worst_391 : decode cX5_worst 391 = .ok (.goto 15, 3) := dk_167 0 15 (dk_at dksX5_worst_16 14 rfl rfl)
theorem dX5_worst_394 : decode cX5_worst 394 = .ok (.iload_n 2, 1) := dk_28 (dk_at dksX5_worst_16 17 rfl rfl)
theorem dX5_worst_395 : decode cX5_worst 395 = .ok (.iconst 1, 1) := dk_4 (dk_at dksX5_worst_16 18 rfl rfl)
theorem dX5_worst_396 : decode cX5_worst 396 = .ok (.if_icmp .ne 8, 3) := dk_160 0 8 (dk_at dksX5_worst_16 19 rfl rfl)
theorem dX5_worst_399 : decode cX5_worst 399 = .ok (.iload 6, 2) := dk_21 6 (dk_at dksX5_worst_16 22 rfl rfl)
theorem dX5_worst_401 : decode cX5_worst 401 = .ok (.goto 5, 3) := dk_167 0 5 (dk_at dksX5_worst_17 0 rfl rfl)
theorem dX5_worst_404 : decode cX5_worst 404 = .ok (.iload 7, 2) := dk_21 7 (dk_at dksX5_worst_17 3 rfl rfl)
theorem dX5_worst_406 : decode cX5_worst 406 = .ok (.ireturn, 1) := dk_172 (dk_at dksX5_worst_17 5 rfl rfl)
abbrev cX5_book : ByteArray := prog_13_method_43_code
def yX5_book : MethodName := ⟨RX5, "book", "(III)I"⟩
def dkwX5_book_4 : List UInt8 := [21, 4, 96, 16, 247, 79, 132, 4, 1, 167, 255, 234, 4, 172]
abbrev dktX5_book_4 : List UInt8 := dkwX5_book_4 ++ []
def dkwX5_book_3 : List UInt8 := [42, 180, 0, 59, 27, 29, 79, 3, 54, 4, 21, 4, 7, 162, 0, 22, 42, 180, 0, 62, 7, 27, 104]
abbrev dktX5_book_3 : List UInt8 := dkwX5_book_3 ++ dktX5_book_4
def dkwX5_book_2 : List UInt8 := [156, 0, 10, 42, 16, 241, 182, 0, 195, 172, 42, 180, 0, 52, 27, 4, 84, 42, 180, 0, 56, 27, 28, 79]
abbrev dktX5_book_2 : List UInt8 := dkwX5_book_2 ++ dktX5_book_3
def dkwX5_book_1 : List UInt8 := [9, 20, 0, 155, 184, 0, 85, 153, 0, 8, 29, 7, 164, 0, 9, 42, 2, 182, 0, 195, 172, 29]
abbrev dktX5_book_1 : List UInt8 := dkwX5_book_1 ++ dktX5_book_2
def dkwX5_book_0 : List UInt8 := [42, 3, 181, 0, 78, 42, 3, 181, 0, 192, 27, 133, 9, 20, 0, 190, 184, 0, 85, 153, 0, 20, 28, 133]
abbrev dktX5_book_0 : List UInt8 := dkwX5_book_0 ++ dktX5_book_1
theorem dksX5_book_0 : cX5_book.data.toList.drop 0 = dktX5_book_0 := by decide +kernel
theorem dksX5_book_1 : cX5_book.data.toList.drop 24 = dktX5_book_1 := dk_seg dksX5_book_0 24 rfl rfl
theorem dksX5_book_2 : cX5_book.data.toList.drop 46 = dktX5_book_2 := dk_seg dksX5_book_1 22 rfl rfl
theorem dksX5_book_3 : cX5_book.data.toList.drop 70 = dktX5_book_3 := dk_seg dksX5_book_2 24 rfl rfl
theorem dksX5_book_4 : cX5_book.data.toList.drop 93 = dktX5_book_4 := dk_seg dksX5_book_3 23 rfl rfl
theorem dX5_book_0 : decode cX5_book 0 = .ok (.aload_n 0, 1) := dk_42 (dk_at dksX5_book_0 0 rfl rfl)
theorem dX5_book_1 : decode cX5_book 1 = .ok (.iconst 0, 1) := dk_3 (dk_at dksX5_book_0 1 rfl rfl)
theorem dX5_book_2 : decode cX5_book 2 = .ok (.putfield 78, 3) := dk_181 0 78 (dk_at dksX5_book_0 2 rfl rfl)
theorem dX5_book_5 : decode cX5_book 5 = .ok (.aload_n 0, 1) := dk_42 (dk_at dksX5_book_0 5 rfl rfl)
theorem dX5_book_6 : decode cX5_book 6 = .ok (.iconst 0, 1) := dk_3 (dk_at dksX5_book_0 6 rfl rfl)
theorem dX5_book_7 : decode cX5_book 7 = .ok (.putfield 192, 3) := dk_181 0 192 (dk_at dksX5_book_0 7 rfl rfl)
theorem dX5_book_10 : decode cX5_book 10 = .ok (.iload_n 1, 1) := dk_27 (dk_at dksX5_book_0 10 rfl rfl)
theorem dX5_book_11 : decode cX5_book 11 = .ok (.i2l, 1) := dk_133 (dk_at dksX5_book_0 11 rfl rfl)
theorem dX5_book_12 : decode cX5_book 12 = .ok (.lconst 0, 1) := dk_9 (dk_at dksX5_book_0 12 rfl rfl)
theorem dX5_book_13 : decode cX5_book 13 = .ok (.ldc2_w 190, 3) := dk_20 0 190 (dk_at dksX5_book_0 13 rfl rfl)
theorem dX5_book_16 : decode cX5_book 16 = .ok (.invokestatic 85, 3) := dk_184 0 85 (dk_at dksX5_book_0 16 rfl rfl)
theorem dX5_book_19 : decode cX5_book 19 = .ok (.ifCond .eq 20, 3) := dk_153 0 20 (dk_at dksX5_book_0 19 rfl rfl)
theorem dX5_book_22 : decode cX5_book 22 = .ok (.iload_n 2, 1) := dk_28 (dk_at dksX5_book_0 22 rfl rfl)
theorem dX5_book_23 : decode cX5_book 23 = .ok (.i2l, 1) := dk_133 (dk_at dksX5_book_0 23 rfl rfl)
theorem dX5_book_24 : decode cX5_book 24 = .ok (.lconst 0, 1) := dk_9 (dk_at dksX5_book_1 0 rfl rfl)
theorem dX5_book_25 : decode cX5_book 25 = .ok (.ldc2_w 155, 3) := dk_20 0 155 (dk_at dksX5_book_1 1 rfl rfl)
theorem dX5_book_28 : decode cX5_book 28 = .ok (.invokestatic 85, 3) := dk_184 0 85 (dk_at dksX5_book_1 4 rfl rfl)
theorem dX5_book_31 : decode cX5_book 31 = .ok (.ifCond .eq 8, 3) := dk_153 0 8 (dk_at dksX5_book_1 7 rfl rfl)
theorem dX5_book_34 : decode cX5_book 34 = .ok (.iload_n 3, 1) := dk_29 (dk_at dksX5_book_1 10 rfl rfl)
theorem dX5_book_35 : decode cX5_book 35 = .ok (.iconst 4, 1) := dk_7 (dk_at dksX5_book_1 11 rfl rfl)
theorem dX5_book_36 : decode cX5_book 36 = .ok (.if_icmp .le 9, 3) := dk_164 0 9 (dk_at dksX5_book_1 12 rfl rfl)
theorem dX5_book_39 : decode cX5_book 39 = .ok (.aload_n 0, 1) := dk_42 (dk_at dksX5_book_1 15 rfl rfl)
theorem dX5_book_40 : decode cX5_book 40 = .ok (.iconst (-1), 1) := dk_2 (dk_at dksX5_book_1 16 rfl rfl)
theorem dX5_book_41 : decode cX5_book 41 = .ok (.invokevirtual 195, 3) := dk_182 0 195 (dk_at dksX5_book_1 17 rfl rfl)
theorem dX5_book_44 : decode cX5_book 44 = .ok (.ireturn, 1) := dk_172 (dk_at dksX5_book_1 20 rfl rfl)
theorem dX5_book_45 : decode cX5_book 45 = .ok (.iload_n 3, 1) := dk_29 (dk_at dksX5_book_1 21 rfl rfl)
theorem dX5_book_46 : decode cX5_book 46 = .ok (.ifCond .ge 10, 3) := dk_156 0 10 (dk_at dksX5_book_2 0 rfl rfl)
theorem dX5_book_49 : decode cX5_book 49 = .ok (.aload_n 0, 1) := dk_42 (dk_at dksX5_book_2 3 rfl rfl)
theorem dX5_book_50 : decode cX5_book 50 = .ok (.bipush (-15), 2) := dk_16 241 (dk_at dksX5_book_2 4 rfl rfl)
theorem dX5_book_52 : decode cX5_book 52 = .ok (.invokevirtual 195, 3) := dk_182 0 195 (dk_at dksX5_book_2 6 rfl rfl)
theorem dX5_book_55 : decode cX5_book 55 = .ok (.ireturn, 1) := dk_172 (dk_at dksX5_book_2 9 rfl rfl)
theorem dX5_book_56 : decode cX5_book 56 = .ok (.aload_n 0, 1) := dk_42 (dk_at dksX5_book_2 10 rfl rfl)
theorem dX5_book_57 : decode cX5_book 57 = .ok (.getfield 52, 3) := dk_180 0 52 (dk_at dksX5_book_2 11 rfl rfl)
theorem dX5_book_60 : decode cX5_book 60 = .ok (.iload_n 1, 1) := dk_27 (dk_at dksX5_book_2 14 rfl rfl)
theorem dX5_book_61 : decode cX5_book 61 = .ok (.iconst 1, 1) := dk_4 (dk_at dksX5_book_2 15 rfl rfl)
theorem dX5_book_62 : decode cX5_book 62 = .ok (.bastore, 1) := dk_84 (dk_at dksX5_book_2 16 rfl rfl)
theorem dX5_book_63 : decode cX5_book 63 = .ok (.aload_n 0, 1) := dk_42 (dk_at dksX5_book_2 17 rfl rfl)
theorem dX5_book_64 : decode cX5_book 64 = .ok (.getfield 56, 3) := dk_180 0 56 (dk_at dksX5_book_2 18 rfl rfl)
theorem dX5_book_67 : decode cX5_book 67 = .ok (.iload_n 1, 1) := dk_27 (dk_at dksX5_book_2 21 rfl rfl)
theorem dX5_book_68 : decode cX5_book 68 = .ok (.iload_n 2, 1) := dk_28 (dk_at dksX5_book_2 22 rfl rfl)
theorem dX5_book_69 : decode cX5_book 69 = .ok (.iastore, 1) := dk_79 (dk_at dksX5_book_2 23 rfl rfl)
theorem dX5_book_70 : decode cX5_book 70 = .ok (.aload_n 0, 1) := dk_42 (dk_at dksX5_book_3 0 rfl rfl)
theorem dX5_book_71 : decode cX5_book 71 = .ok (.getfield 59, 3) := dk_180 0 59 (dk_at dksX5_book_3 1 rfl rfl)
theorem dX5_book_74 : decode cX5_book 74 = .ok (.iload_n 1, 1) := dk_27 (dk_at dksX5_book_3 4 rfl rfl)
theorem dX5_book_75 : decode cX5_book 75 = .ok (.iload_n 3, 1) := dk_29 (dk_at dksX5_book_3 5 rfl rfl)
theorem dX5_book_76 : decode cX5_book 76 = .ok (.iastore, 1) := dk_79 (dk_at dksX5_book_3 6 rfl rfl)
theorem dX5_book_77 : decode cX5_book 77 = .ok (.iconst 0, 1) := dk_3 (dk_at dksX5_book_3 7 rfl rfl)
theorem dX5_book_78 : decode cX5_book 78 = .ok (.istore 4, 2) := dk_54 4 (dk_at dksX5_book_3 8 rfl rfl)
theorem dX5_book_80 : decode cX5_book 80 = .ok (.iload 4, 2) := dk_21 4 (dk_at dksX5_book_3 10 rfl rfl)
theorem dX5_book_82 : decode cX5_book 82 = .ok (.iconst 4, 1) := dk_7 (dk_at dksX5_book_3 12 rfl rfl)
theorem dX5_book_83 : decode cX5_book 83 = .ok (.if_icmp .ge 22, 3) := dk_162 0 22 (dk_at dksX5_book_3 13 rfl rfl)
theorem dX5_book_86 : decode cX5_book 86 = .ok (.aload_n 0, 1) := dk_42 (dk_at dksX5_book_3 16 rfl rfl)
theorem dX5_book_87 : decode cX5_book 87 = .ok (.getfield 62, 3) := dk_180 0 62 (dk_at dksX5_book_3 17 rfl rfl)
theorem dX5_book_90 : decode cX5_book 90 = .ok (.iconst 4, 1) := dk_7 (dk_at dksX5_book_3 20 rfl rfl)
theorem dX5_book_91 : decode cX5_book 91 = .ok (.iload_n 1, 1) := dk_27 (dk_at dksX5_book_3 21 rfl rfl)
theorem dX5_book_92 : decode cX5_book 92 = .ok (.imul, 1) := dk_104 (dk_at dksX5_book_3 22 rfl rfl)
theorem dX5_book_93 : decode cX5_book 93 = .ok (.iload 4, 2) := dk_21 4 (dk_at dksX5_book_4 0 rfl rfl)
theorem dX5_book_95 : decode cX5_book 95 = .ok (.iadd, 1) := dk_96 (dk_at dksX5_book_4 2 rfl rfl)
theorem dX5_book_96 : decode cX5_book 96 = .ok (.bipush (-9), 2) := dk_16 247 (dk_at dksX5_book_4 3 rfl rfl)
theorem dX5_book_98 : decode cX5_book 98 = .ok (.iastore, 1) := dk_79 (dk_at dksX5_book_4 5 rfl rfl)
theorem dX5_book_99 : decode cX5_book 99 = .ok (.iinc 4 1, 3) := dk_132 4 1 (dk_at dksX5_book_4 6 rfl rfl)
theorem dX5_book_102 : decode cX5_book 102 = .ok (.goto (-22), 3) := dk_167 255 234 (dk_at dksX5_book_4 9 rfl rfl)
theorem dX5_book_105 : decode cX5_book 105 = .ok (.iconst 1, 1) := dk_4 (dk_at dksX5_book_4 12 rfl rfl)
theorem dX5_book_106 : decode cX5_book 106 = .ok (.ireturn, 1) := dk_172 (dk_at dksX5_book_4 13 rfl rfl)
abbrev cX5_no : ByteArray := prog_13_method_42_code
def yX5_no : MethodName := ⟨RX5, "no", "(I)I"⟩
def dkwX5_no_0 : List UInt8 := [42, 27, 181, 0, 192, 27, 172]
abbrev dktX5_no_0 : List UInt8 := dkwX5_no_0 ++ []
theorem dksX5_no_0 : cX5_no.data.toList.drop 0 = dktX5_no_0 := by decide +kernel
theorem dX5_no_0 : decode cX5_no 0 = .ok (.aload_n 0, 1) := dk_42 (dk_at dksX5_no_0 0 rfl rfl)
theorem dX5_no_1 : decode cX5_no 1 = .ok (.iload_n 1, 1) := dk_27 (dk_at dksX5_no_0 1 rfl rfl)
theorem dX5_no_2 : decode cX5_no 2 = .ok (.putfield 192, 3) := dk_181 0 192 (dk_at dksX5_no_0 2 rfl rfl)
theorem dX5_no_5 : decode cX5_no 5 = .ok (.iload_n 1, 1) := dk_27 (dk_at dksX5_no_0 5 rfl rfl)
theorem dX5_no_6 : decode cX5_no 6 = .ok (.ireturn, 1) := dk_172 (dk_at dksX5_no_0 6 rfl rfl)
abbrev cX5_row : ByteArray := prog_13_method_44_code
def yX5_row : MethodName := ⟨RX5, "row", "(III)I"⟩
def dkwX5_row_5 : List UInt8 := [28, 104, 96, 21, 4, 96, 9, 80, 132, 4, 1, 167, 255, 228, 4, 172]
abbrev dktX5_row_5 : List UInt8 := dkwX5_row_5 ++ []
def dkwX5_row_4 : List UInt8 := [28, 96, 29, 79, 3, 54, 4, 21, 4, 16, 8, 162, 0, 27, 42, 180, 0, 65, 16, 32, 27, 104, 16, 8]
abbrev dktX5_row_4 : List UInt8 := dkwX5_row_4 ++ dktX5_row_5
def dkwX5_row_3 : List UInt8 := [16, 244, 182, 0, 195, 172, 29, 156, 0, 10, 42, 16, 241, 182, 0, 195, 172, 42, 180, 0, 62, 7, 27, 104]
abbrev dktX5_row_3 : List UInt8 := dkwX5_row_3 ++ dktX5_row_4
def dkwX5_row_2 : List UInt8 := [182, 0, 195, 172, 28, 133, 9, 42, 180, 0, 59, 27, 46, 4, 100, 133, 184, 0, 85, 154, 0, 10, 42]
abbrev dktX5_row_2 : List UInt8 := dkwX5_row_2 ++ dktX5_row_3
def dkwX5_row_1 : List UInt8 := [16, 8, 164, 0, 9, 42, 2, 182, 0, 195, 172, 42, 180, 0, 52, 27, 51, 154, 0, 10, 42, 16, 245]
abbrev dktX5_row_1 : List UInt8 := dkwX5_row_1 ++ dktX5_row_2
def dkwX5_row_0 : List UInt8 := [42, 3, 181, 0, 78, 42, 3, 181, 0, 192, 27, 133, 9, 20, 0, 190, 184, 0, 85, 153, 0, 9, 29]
abbrev dktX5_row_0 : List UInt8 := dkwX5_row_0 ++ dktX5_row_1
theorem dksX5_row_0 : cX5_row.data.toList.drop 0 = dktX5_row_0 := by decide +kernel
theorem dksX5_row_1 : cX5_row.data.toList.drop 23 = dktX5_row_1 := dk_seg dksX5_row_0 23 rfl rfl
theorem dksX5_row_2 : cX5_row.data.toList.drop 46 = dktX5_row_2 := dk_seg dksX5_row_1 23 rfl rfl
theorem dksX5_row_3 : cX5_row.data.toList.drop 69 = dktX5_row_3 := dk_seg dksX5_row_2 23 rfl rfl
theorem dksX5_row_4 : cX5_row.data.toList.drop 93 = dktX5_row_4 := dk_seg dksX5_row_3 24 rfl rfl
theorem dksX5_row_5 : cX5_row.data.toList.drop 117 = dktX5_row_5 := dk_seg dksX5_row_4 24 rfl rfl
theorem dX5_row_0 : decode cX5_row 0 = .ok (.aload_n 0, 1) := dk_42 (dk_at dksX5_row_0 0 rfl rfl)
theorem dX5_row_1 : decode cX5_row 1 = .ok (.iconst 0, 1) := dk_3 (dk_at dksX5_row_0 1 rfl rfl)
theorem dX5_row_2 : decode cX5_row 2 = .ok (.putfield 78, 3) := dk_181 0 78 (dk_at dksX5_row_0 2 rfl rfl)
theorem dX5_row_5 : decode cX5_row 5 = .ok (.aload_n 0, 1) := dk_42 (dk_at dksX5_row_0 5 rfl rfl)
theorem dX5_row_6 : decode cX5_row 6 = .ok (.iconst 0, 1) := dk_3 (dk_at dksX5_row_0 6 rfl rfl)
theorem dX5_row_7 : decode cX5_row 7 = .ok (.putfield 192, 3) := dk_181 0 192 (dk_at dksX5_row_0 7 rfl rfl)
theorem dX5_row_10 : decode cX5_row 10 = .ok (.iload_n 1, 1) := dk_27 (dk_at dksX5_row_0 10 rfl rfl)
theorem dX5_row_11 : decode cX5_row 11 = .ok (.i2l, 1) := dk_133 (dk_at dksX5_row_0 11 rfl rfl)
theorem dX5_row_12 : decode cX5_row 12 = .ok (.lconst 0, 1) := dk_9 (dk_at dksX5_row_0 12 rfl rfl)
theorem dX5_row_13 : decode cX5_row 13 = .ok (.ldc2_w 190, 3) := dk_20 0 190 (dk_at dksX5_row_0 13 rfl rfl)
theorem dX5_row_16 : decode cX5_row 16 = .ok (.invokestatic 85, 3) := dk_184 0 85 (dk_at dksX5_row_0 16 rfl rfl)
theorem dX5_row_19 : decode cX5_row 19 = .ok (.ifCond .eq 9, 3) := dk_153 0 9 (dk_at dksX5_row_0 19 rfl rfl)
theorem dX5_row_22 : decode cX5_row 22 = .ok (.iload_n 3, 1) := dk_29 (dk_at dksX5_row_0 22 rfl rfl)
theorem dX5_row_23 : decode cX5_row 23 = .ok (.bipush 8, 2) := dk_16 8 (dk_at dksX5_row_1 0 rfl rfl)
theorem dX5_row_25 : decode cX5_row 25 = .ok (.if_icmp .le 9, 3) := dk_164 0 9 (dk_at dksX5_row_1 2 rfl rfl)
theorem dX5_row_28 : decode cX5_row 28 = .ok (.aload_n 0, 1) := dk_42 (dk_at dksX5_row_1 5 rfl rfl)
theorem dX5_row_29 : decode cX5_row 29 = .ok (.iconst (-1), 1) := dk_2 (dk_at dksX5_row_1 6 rfl rfl)
theorem dX5_row_30 : decode cX5_row 30 = .ok (.invokevirtual 195, 3) := dk_182 0 195 (dk_at dksX5_row_1 7 rfl rfl)
theorem dX5_row_33 : decode cX5_row 33 = .ok (.ireturn, 1) := dk_172 (dk_at dksX5_row_1 10 rfl rfl)
theorem dX5_row_34 : decode cX5_row 34 = .ok (.aload_n 0, 1) := dk_42 (dk_at dksX5_row_1 11 rfl rfl)
theorem dX5_row_35 : decode cX5_row 35 = .ok (.getfield 52, 3) := dk_180 0 52 (dk_at dksX5_row_1 12 rfl rfl)
theorem dX5_row_38 : decode cX5_row 38 = .ok (.iload_n 1, 1) := dk_27 (dk_at dksX5_row_1 15 rfl rfl)
theorem dX5_row_39 : decode cX5_row 39 = .ok (.baload, 1) := dk_51 (dk_at dksX5_row_1 16 rfl rfl)
theorem dX5_row_40 : decode cX5_row 40 = .ok (.ifCond .ne 10, 3) := dk_154 0 10 (dk_at dksX5_row_1 17 rfl rfl)
theorem dX5_row_43 : decode cX5_row 43 = .ok (.aload_n 0, 1) := dk_42 (dk_at dksX5_row_1 20 rfl rfl)
theorem dX5_row_44 : decode cX5_row 44 = .ok (.bipush (-11), 2) := dk_16 245 (dk_at dksX5_row_1 21 rfl rfl)
theorem dX5_row_46 : decode cX5_row 46 = .ok (.invokevirtual 195, 3) := dk_182 0 195 (dk_at dksX5_row_2 0 rfl rfl)
theorem dX5_row_49 : decode cX5_row 49 = .ok (.ireturn, 1) := dk_172 (dk_at dksX5_row_2 3 rfl rfl)
theorem dX5_row_50 : decode cX5_row 50 = .ok (.iload_n 2, 1) := dk_28 (dk_at dksX5_row_2 4 rfl rfl)
theorem dX5_row_51 : decode cX5_row 51 = .ok (.i2l, 1) := dk_133 (dk_at dksX5_row_2 5 rfl rfl)
theorem dX5_row_52 : decode cX5_row 52 = .ok (.lconst 0, 1) := dk_9 (dk_at dksX5_row_2 6 rfl rfl)
theorem dX5_row_53 : decode cX5_row 53 = .ok (.aload_n 0, 1) := dk_42 (dk_at dksX5_row_2 7 rfl rfl)
theorem dX5_row_54 : decode cX5_row 54 = .ok (.getfield 59, 3) := dk_180 0 59 (dk_at dksX5_row_2 8 rfl rfl)
theorem dX5_row_57 : decode cX5_row 57 = .ok (.iload_n 1, 1) := dk_27 (dk_at dksX5_row_2 11 rfl rfl)
theorem dX5_row_58 : decode cX5_row 58 = .ok (.iaload, 1) := dk_46 (dk_at dksX5_row_2 12 rfl rfl)
theorem dX5_row_59 : decode cX5_row 59 = .ok (.iconst 1, 1) := dk_4 (dk_at dksX5_row_2 13 rfl rfl)
theorem dX5_row_60 : decode cX5_row 60 = .ok (.isub, 1) := dk_100 (dk_at dksX5_row_2 14 rfl rfl)
theorem dX5_row_61 : decode cX5_row 61 = .ok (.i2l, 1) := dk_133 (dk_at dksX5_row_2 15 rfl rfl)
theorem dX5_row_62 : decode cX5_row 62 = .ok (.invokestatic 85, 3) := dk_184 0 85 (dk_at dksX5_row_2 16 rfl rfl)
theorem dX5_row_65 : decode cX5_row 65 = .ok (.ifCond .ne 10, 3) := dk_154 0 10 (dk_at dksX5_row_2 19 rfl rfl)
theorem dX5_row_68 : decode cX5_row 68 = .ok (.aload_n 0, 1) := dk_42 (dk_at dksX5_row_2 22 rfl rfl)
theorem dX5_row_69 : decode cX5_row 69 = .ok (.bipush (-12), 2) := dk_16 244 (dk_at dksX5_row_3 0 rfl rfl)
theorem dX5_row_71 : decode cX5_row 71 = .ok (.invokevirtual 195, 3) := dk_182 0 195 (dk_at dksX5_row_3 2 rfl rfl)
theorem dX5_row_74 : decode cX5_row 74 = .ok (.ireturn, 1) := dk_172 (dk_at dksX5_row_3 5 rfl rfl)
theorem dX5_row_75 : decode cX5_row 75 = .ok (.iload_n 3, 1) := dk_29 (dk_at dksX5_row_3 6 rfl rfl)
theorem dX5_row_76 : decode cX5_row 76 = .ok (.ifCond .ge 10, 3) := dk_156 0 10 (dk_at dksX5_row_3 7 rfl rfl)
theorem dX5_row_79 : decode cX5_row 79 = .ok (.aload_n 0, 1) := dk_42 (dk_at dksX5_row_3 10 rfl rfl)
theorem dX5_row_80 : decode cX5_row 80 = .ok (.bipush (-15), 2) := dk_16 241 (dk_at dksX5_row_3 11 rfl rfl)
theorem dX5_row_82 : decode cX5_row 82 = .ok (.invokevirtual 195, 3) := dk_182 0 195 (dk_at dksX5_row_3 13 rfl rfl)
theorem dX5_row_85 : decode cX5_row 85 = .ok (.ireturn, 1) := dk_172 (dk_at dksX5_row_3 16 rfl rfl)
theorem dX5_row_86 : decode cX5_row 86 = .ok (.aload_n 0, 1) := dk_42 (dk_at dksX5_row_3 17 rfl rfl)
theorem dX5_row_87 : decode cX5_row 87 = .ok (.getfield 62, 3) := dk_180 0 62 (dk_at dksX5_row_3 18 rfl rfl)
theorem dX5_row_90 : decode cX5_row 90 = .ok (.iconst 4, 1) := dk_7 (dk_at dksX5_row_3 21 rfl rfl)
theorem dX5_row_91 : decode cX5_row 91 = .ok (.iload_n 1, 1) := dk_27 (dk_at dksX5_row_3 22 rfl rfl)
theorem dX5_row_92 : decode cX5_row 92 = .ok (.imul, 1) := dk_104 (dk_at dksX5_row_3 23 rfl rfl)
theorem dX5_row_93 : decode cX5_row 93 = .ok (.iload_n 2, 1) := dk_28 (dk_at dksX5_row_4 0 rfl rfl)
theorem dX5_row_94 : decode cX5_row 94 = .ok (.iadd, 1) := dk_96 (dk_at dksX5_row_4 1 rfl rfl)
theorem dX5_row_95 : decode cX5_row 95 = .ok (.iload_n 3, 1) := dk_29 (dk_at dksX5_row_4 2 rfl rfl)
theorem dX5_row_96 : decode cX5_row 96 = .ok (.iastore, 1) := dk_79 (dk_at dksX5_row_4 3 rfl rfl)
theorem dX5_row_97 : decode cX5_row 97 = .ok (.iconst 0, 1) := dk_3 (dk_at dksX5_row_4 4 rfl rfl)
theorem dX5_row_98 : decode cX5_row 98 = .ok (.istore 4, 2) := dk_54 4 (dk_at dksX5_row_4 5 rfl rfl)
theorem dX5_row_100 : decode cX5_row 100 = .ok (.iload 4, 2) := dk_21 4 (dk_at dksX5_row_4 7 rfl rfl)
theorem dX5_row_102 : decode cX5_row 102 = .ok (.bipush 8, 2) := dk_16 8 (dk_at dksX5_row_4 9 rfl rfl)
theorem dX5_row_104 : decode cX5_row 104 = .ok (.if_icmp .ge 27, 3) := dk_162 0 27 (dk_at dksX5_row_4 11 rfl rfl)
theorem dX5_row_107 : decode cX5_row 107 = .ok (.aload_n 0, 1) := dk_42 (dk_at dksX5_row_4 14 rfl rfl)
theorem dX5_row_108 : decode cX5_row 108 = .ok (.getfield 65, 3) := dk_180 0 65 (dk_at dksX5_row_4 15 rfl rfl)
theorem dX5_row_111 : decode cX5_row 111 = .ok (.bipush 32, 2) := dk_16 32 (dk_at dksX5_row_4 18 rfl rfl)
theorem dX5_row_113 : decode cX5_row 113 = .ok (.iload_n 1, 1) := dk_27 (dk_at dksX5_row_4 20 rfl rfl)
theorem dX5_row_114 : decode cX5_row 114 = .ok (.imul, 1) := dk_104 (dk_at dksX5_row_4 21 rfl rfl)
theorem dX5_row_115 : decode cX5_row 115 = .ok (.bipush 8, 2) := dk_16 8 (dk_at dksX5_row_4 22 rfl rfl)
theorem dX5_row_117 : decode cX5_row 117 = .ok (.iload_n 2, 1) := dk_28 (dk_at dksX5_row_5 0 rfl rfl)
theorem dX5_row_118 : decode cX5_row 118 = .ok (.imul, 1) := dk_104 (dk_at dksX5_row_5 1 rfl rfl)
theorem dX5_row_119 : decode cX5_row 119 = .ok (.iadd, 1) := dk_96 (dk_at dksX5_row_5 2 rfl rfl)
theorem dX5_row_120 : decode cX5_row 120 = .ok (.iload 4, 2) := dk_21 4 (dk_at dksX5_row_5 3 rfl rfl)
theorem dX5_row_122 : decode cX5_row 122 = .ok (.iadd, 1) := dk_96 (dk_at dksX5_row_5 5 rfl rfl)
theorem dX5_row_123 : decode cX5_row 123 = .ok (.lconst 0, 1) := dk_9 (dk_at dksX5_row_5 6 rfl rfl)
theorem dX5_row_124 : decode cX5_row 124 = .ok (.lastore, 1) := dk_80 (dk_at dksX5_row_5 7 rfl rfl)
theorem dX5_row_125 : decode cX5_row 125 = .ok (.iinc 4 1, 3) := dk_132 4 1 (dk_at dksX5_row_5 8 rfl rfl)
theorem dX5_row_128 : decode cX5_row 128 = .ok (.goto (-28), 3) := dk_167 255 228 (dk_at dksX5_row_5 11 rfl rfl)
theorem dX5_row_131 : decode cX5_row 131 = .ok (.iconst 1, 1) := dk_4 (dk_at dksX5_row_5 14 rfl rfl)
theorem dX5_row_132 : decode cX5_row 132 = .ok (.ireturn, 1) := dk_172 (dk_at dksX5_row_5 15 rfl rfl)
abbrev cX5_put : ByteArray := prog_13_method_46_code
def yX5_put : MethodName := ⟨RX5, "put", "(IIIIJ)I"⟩
def dkwX5_put_3 : List UInt8 := [167, 0, 17, 28, 5, 160, 0, 10, 22, 5, 136, 133, 167, 0, 5, 22, 5, 80, 4, 172]
abbrev dktX5_put_3 : List UInt8 := dkwX5_put_3 ++ []
def dkwX5_put_2 : List UInt8 := [28, 154, 0, 11, 22, 5, 136, 145, 133, 167, 0, 30, 28, 4, 160, 0, 11, 22, 5, 136, 147, 133]
abbrev dktX5_put_2 : List UInt8 := dkwX5_put_2 ++ dktX5_put_3
def dkwX5_put_1 : List UInt8 := [156, 0, 8, 42, 180, 0, 192, 172, 42, 180, 0, 65, 16, 32, 27, 104, 16, 8, 29, 104, 96, 21, 4, 96]
abbrev dktX5_put_1 : List UInt8 := dkwX5_put_1 ++ dktX5_put_2
def dkwX5_put_0 : List UInt8 := [42, 3, 181, 0, 78, 42, 42, 27, 28, 29, 21, 4, 182, 0, 198, 181, 0, 192, 42, 180, 0, 192]
abbrev dktX5_put_0 : List UInt8 := dkwX5_put_0 ++ dktX5_put_1
theorem dksX5_put_0 : cX5_put.data.toList.drop 0 = dktX5_put_0 := by decide +kernel
theorem dksX5_put_1 : cX5_put.data.toList.drop 22 = dktX5_put_1 := dk_seg dksX5_put_0 22 rfl rfl
theorem dksX5_put_2 : cX5_put.data.toList.drop 46 = dktX5_put_2 := dk_seg dksX5_put_1 24 rfl rfl
theorem dksX5_put_3 : cX5_put.data.toList.drop 68 = dktX5_put_3 := dk_seg dksX5_put_2 22 rfl rfl
theorem dX5_put_0 : decode cX5_put 0 = .ok (.aload_n 0, 1) := dk_42 (dk_at dksX5_put_0 0 rfl rfl)
theorem dX5_put_1 : decode cX5_put 1 = .ok (.iconst 0, 1) := dk_3 (dk_at dksX5_put_0 1 rfl rfl)
theorem dX5_put_2 : decode cX5_put 2 = .ok (.putfield 78, 3) := dk_181 0 78 (dk_at dksX5_put_0 2 rfl rfl)
theorem dX5_put_5 : decode cX5_put 5 = .ok (.aload_n 0, 1) := dk_42 (dk_at dksX5_put_0 5 rfl rfl)
theorem dX5_put_6 : decode cX5_put 6 = .ok (.aload_n 0, 1) := dk_42 (dk_at dksX5_put_0 6 rfl rfl)
theorem dX5_put_7 : decode cX5_put 7 = .ok (.iload_n 1, 1) := dk_27 (dk_at dksX5_put_0 7 rfl rfl)
theorem dX5_put_8 : decode cX5_put 8 = .ok (.iload_n 2, 1) := dk_28 (dk_at dksX5_put_0 8 rfl rfl)
theorem dX5_put_9 : decode cX5_put 9 = .ok (.iload_n 3, 1) := dk_29 (dk_at dksX5_put_0 9 rfl rfl)
theorem dX5_put_10 : decode cX5_put 10 = .ok (.iload 4, 2) := dk_21 4 (dk_at dksX5_put_0 10 rfl rfl)
theorem dX5_put_12 : decode cX5_put 12 = .ok (.invokevirtual 198, 3) := dk_182 0 198 (dk_at dksX5_put_0 12 rfl rfl)
theorem dX5_put_15 : decode cX5_put 15 = .ok (.putfield 192, 3) := dk_181 0 192 (dk_at dksX5_put_0 15 rfl rfl)
theorem dX5_put_18 : decode cX5_put 18 = .ok (.aload_n 0, 1) := dk_42 (dk_at dksX5_put_0 18 rfl rfl)
theorem dX5_put_19 : decode cX5_put 19 = .ok (.getfield 192, 3) := dk_180 0 192 (dk_at dksX5_put_0 19 rfl rfl)
theorem dX5_put_22 : decode cX5_put 22 = .ok (.ifCond .ge 8, 3) := dk_156 0 8 (dk_at dksX5_put_1 0 rfl rfl)
theorem dX5_put_25 : decode cX5_put 25 = .ok (.aload_n 0, 1) := dk_42 (dk_at dksX5_put_1 3 rfl rfl)
theorem dX5_put_26 : decode cX5_put 26 = .ok (.getfield 192, 3) := dk_180 0 192 (dk_at dksX5_put_1 4 rfl rfl)
theorem dX5_put_29 : decode cX5_put 29 = .ok (.ireturn, 1) := dk_172 (dk_at dksX5_put_1 7 rfl rfl)
theorem dX5_put_30 : decode cX5_put 30 = .ok (.aload_n 0, 1) := dk_42 (dk_at dksX5_put_1 8 rfl rfl)
theorem dX5_put_31 : decode cX5_put 31 = .ok (.getfield 65, 3) := dk_180 0 65 (dk_at dksX5_put_1 9 rfl rfl)
theorem dX5_put_34 : decode cX5_put 34 = .ok (.bipush 32, 2) := dk_16 32 (dk_at dksX5_put_1 12 rfl rfl)
theorem dX5_put_36 : decode cX5_put 36 = .ok (.iload_n 1, 1) := dk_27 (dk_at dksX5_put_1 14 rfl rfl)
theorem dX5_put_37 : decode cX5_put 37 = .ok (.imul, 1) := dk_104 (dk_at dksX5_put_1 15 rfl rfl)
theorem dX5_put_38 : decode cX5_put 38 = .ok (.bipush 8, 2) := dk_16 8 (dk_at dksX5_put_1 16 rfl rfl)
theorem dX5_put_40 : decode cX5_put 40 = .ok (.iload_n 3, 1) := dk_29 (dk_at dksX5_put_1 18 rfl rfl)
theorem dX5_put_41 : decode cX5_put 41 = .ok (.imul, 1) := dk_104 (dk_at dksX5_put_1 19 rfl rfl)
theorem dX5_put_42 : decode cX5_put 42 = .ok (.iadd, 1) := dk_96 (dk_at dksX5_put_1 20 rfl rfl)
theorem dX5_put_43 : decode cX5_put 43 = .ok (.iload 4, 2) := dk_21 4 (dk_at dksX5_put_1 21 rfl rfl)
theorem dX5_put_45 : decode cX5_put 45 = .ok (.iadd, 1) := dk_96 (dk_at dksX5_put_1 23 rfl rfl)
theorem dX5_put_46 : decode cX5_put 46 = .ok (.iload_n 2, 1) := dk_28 (dk_at dksX5_put_2 0 rfl rfl)
theorem dX5_put_47 : decode cX5_put 47 = .ok (.ifCond .ne 11, 3) := dk_154 0 11 (dk_at dksX5_put_2 1 rfl rfl)
theorem dX5_put_50 : decode cX5_put 50 = .ok (.lload 5, 2) := dk_22 5 (dk_at dksX5_put_2 4 rfl rfl)
theorem dX5_put_52 : decode cX5_put 52 = .ok (.l2i, 1) := dk_136 (dk_at dksX5_put_2 6 rfl rfl)
theorem dX5_put_53 : decode cX5_put 53 = .ok (.i2b, 1) := dk_145 (dk_at dksX5_put_2 7 rfl rfl)
theorem dX5_put_54 : decode cX5_put 54 = .ok (.i2l, 1) := dk_133 (dk_at dksX5_put_2 8 rfl rfl)
theorem dX5_put_55 : decode cX5_put 55 = .ok (.goto 30, 3) := dk_167 0 30 (dk_at dksX5_put_2 9 rfl rfl)
theorem dX5_put_58 : decode cX5_put 58 = .ok (.iload_n 2, 1) := dk_28 (dk_at dksX5_put_2 12 rfl rfl)
theorem dX5_put_59 : decode cX5_put 59 = .ok (.iconst 1, 1) := dk_4 (dk_at dksX5_put_2 13 rfl rfl)
theorem dX5_put_60 : decode cX5_put 60 = .ok (.if_icmp .ne 11, 3) := dk_160 0 11 (dk_at dksX5_put_2 14 rfl rfl)
theorem dX5_put_63 : decode cX5_put 63 = .ok (.lload 5, 2) := dk_22 5 (dk_at dksX5_put_2 17 rfl rfl)
theorem dX5_put_65 : decode cX5_put 65 = .ok (.l2i, 1) := dk_136 (dk_at dksX5_put_2 19 rfl rfl)
theorem dX5_put_66 : decode cX5_put 66 = .ok (.i2s, 1) := dk_147 (dk_at dksX5_put_2 20 rfl rfl)
theorem dX5_put_67 : decode cX5_put 67 = .ok (.i2l, 1) := dk_133 (dk_at dksX5_put_2 21 rfl rfl)
theorem dX5_put_68 : decode cX5_put 68 = .ok (.goto 17, 3) := dk_167 0 17 (dk_at dksX5_put_3 0 rfl rfl)
theorem dX5_put_71 : decode cX5_put 71 = .ok (.iload_n 2, 1) := dk_28 (dk_at dksX5_put_3 3 rfl rfl)
theorem dX5_put_72 : decode cX5_put 72 = .ok (.iconst 2, 1) := dk_5 (dk_at dksX5_put_3 4 rfl rfl)
theorem dX5_put_73 : decode cX5_put 73 = .ok (.if_icmp .ne 10, 3) := dk_160 0 10 (dk_at dksX5_put_3 5 rfl rfl)
theorem dX5_put_76 : decode cX5_put 76 = .ok (.lload 5, 2) := dk_22 5 (dk_at dksX5_put_3 8 rfl rfl)
theorem dX5_put_78 : decode cX5_put 78 = .ok (.l2i, 1) := dk_136 (dk_at dksX5_put_3 10 rfl rfl)
theorem dX5_put_79 : decode cX5_put 79 = .ok (.i2l, 1) := dk_133 (dk_at dksX5_put_3 11 rfl rfl)
theorem dX5_put_80 : decode cX5_put 80 = .ok (.goto 5, 3) := dk_167 0 5 (dk_at dksX5_put_3 12 rfl rfl)
theorem dX5_put_83 : decode cX5_put 83 = .ok (.lload 5, 2) := dk_22 5 (dk_at dksX5_put_3 15 rfl rfl)
theorem dX5_put_85 : decode cX5_put 85 = .ok (.lastore, 1) := dk_80 (dk_at dksX5_put_3 17 rfl rfl)
theorem dX5_put_86 : decode cX5_put 86 = .ok (.iconst 1, 1) := dk_4 (dk_at dksX5_put_3 18 rfl rfl)
theorem dX5_put_87 : decode cX5_put 87 = .ok (.ireturn, 1) := dk_172 (dk_at dksX5_put_3 19 rfl rfl)
abbrev cX5_wrong : ByteArray := prog_13_method_45_code
def yX5_wrong : MethodName := ⟨RX5, "wrong", "(IIII)I"⟩
def dkwX5_wrong_4 : List UInt8 := [21, 4, 133, 9, 21, 5, 4, 100, 133, 184, 0, 85, 153, 0, 7, 3, 167, 0, 5, 16, 244, 172]
abbrev dktX5_wrong_4 : List UInt8 := dkwX5_wrong_4 ++ []
def dkwX5_wrong_3 : List UInt8 := [42, 180, 0, 62, 7, 27, 104, 29, 96, 46, 54, 5, 21, 5, 16, 247, 160, 0, 8, 16, 245, 167, 0, 24]
abbrev dktX5_wrong_3 : List UInt8 := dkwX5_wrong_3 ++ dktX5_wrong_4
def dkwX5_wrong_2 : List UInt8 := [16, 243, 172, 29, 133, 9, 42, 180, 0, 59, 27, 46, 4, 100, 133, 184, 0, 85, 154, 0, 6, 16, 244, 172]
abbrev dktX5_wrong_2 : List UInt8 := dkwX5_wrong_2 ++ dktX5_wrong_3
def dkwX5_wrong_1 : List UInt8 := [2, 172, 42, 180, 0, 52, 27, 51, 154, 0, 6, 16, 245, 172, 42, 180, 0, 56, 27, 46, 28, 159, 0, 6]
abbrev dktX5_wrong_1 : List UInt8 := dkwX5_wrong_1 ++ dktX5_wrong_2
def dkwX5_wrong_0 : List UInt8 := [27, 133, 9, 20, 0, 190, 184, 0, 85, 153, 0, 15, 28, 133, 9, 20, 0, 155, 184, 0, 85, 154, 0, 5]
abbrev dktX5_wrong_0 : List UInt8 := dkwX5_wrong_0 ++ dktX5_wrong_1
theorem dksX5_wrong_0 : cX5_wrong.data.toList.drop 0 = dktX5_wrong_0 := by decide +kernel
theorem dksX5_wrong_1 : cX5_wrong.data.toList.drop 24 = dktX5_wrong_1 := dk_seg dksX5_wrong_0 24 rfl rfl
theorem dksX5_wrong_2 : cX5_wrong.data.toList.drop 48 = dktX5_wrong_2 := dk_seg dksX5_wrong_1 24 rfl rfl
theorem dksX5_wrong_3 : cX5_wrong.data.toList.drop 72 = dktX5_wrong_3 := dk_seg dksX5_wrong_2 24 rfl rfl
theorem dksX5_wrong_4 : cX5_wrong.data.toList.drop 96 = dktX5_wrong_4 := dk_seg dksX5_wrong_3 24 rfl rfl
theorem dX5_wrong_0 : decode cX5_wrong 0 = .ok (.iload_n 1, 1) := dk_27 (dk_at dksX5_wrong_0 0 rfl rfl)
theorem dX5_wrong_1 : decode cX5_wrong 1 = .ok (.i2l, 1) := dk_133 (dk_at dksX5_wrong_0 1 rfl rfl)
theorem dX5_wrong_2 : decode cX5_wrong 2 = .ok (.lconst 0, 1) := dk_9 (dk_at dksX5_wrong_0 2 rfl rfl)
theorem dX5_wrong_3 : decode cX5_wrong 3 = .ok (.ldc2_w 190, 3) := dk_20 0 190 (dk_at dksX5_wrong_0 3 rfl rfl)
theorem dX5_wrong_6 : decode cX5_wrong 6 = .ok (.invokestatic 85, 3) := dk_184 0 85 (dk_at dksX5_wrong_0 6 rfl rfl)
theorem dX5_wrong_9 : decode cX5_wrong 9 = .ok (.ifCond .eq 15, 3) := dk_153 0 15 (dk_at dksX5_wrong_0 9 rfl rfl)
theorem dX5_wrong_12 : decode cX5_wrong 12 = .ok (.iload_n 2, 1) := dk_28 (dk_at dksX5_wrong_0 12 rfl rfl)
theorem dX5_wrong_13 : decode cX5_wrong 13 = .ok (.i2l, 1) := dk_133 (dk_at dksX5_wrong_0 13 rfl rfl)
theorem dX5_wrong_14 : decode cX5_wrong 14 = .ok (.lconst 0, 1) := dk_9 (dk_at dksX5_wrong_0 14 rfl rfl)
theorem dX5_wrong_15 : decode cX5_wrong 15 = .ok (.ldc2_w 155, 3) := dk_20 0 155 (dk_at dksX5_wrong_0 15 rfl rfl)
theorem dX5_wrong_18 : decode cX5_wrong 18 = .ok (.invokestatic 85, 3) := dk_184 0 85 (dk_at dksX5_wrong_0 18 rfl rfl)
theorem dX5_wrong_21 : decode cX5_wrong 21 = .ok (.ifCond .ne 5, 3) := dk_154 0 5 (dk_at dksX5_wrong_0 21 rfl rfl)
theorem dX5_wrong_24 : decode cX5_wrong 24 = .ok (.iconst (-1), 1) := dk_2 (dk_at dksX5_wrong_1 0 rfl rfl)
theorem dX5_wrong_25 : decode cX5_wrong 25 = .ok (.ireturn, 1) := dk_172 (dk_at dksX5_wrong_1 1 rfl rfl)
theorem dX5_wrong_26 : decode cX5_wrong 26 = .ok (.aload_n 0, 1) := dk_42 (dk_at dksX5_wrong_1 2 rfl rfl)
theorem dX5_wrong_27 : decode cX5_wrong 27 = .ok (.getfield 52, 3) := dk_180 0 52 (dk_at dksX5_wrong_1 3 rfl rfl)
theorem dX5_wrong_30 : decode cX5_wrong 30 = .ok (.iload_n 1, 1) := dk_27 (dk_at dksX5_wrong_1 6 rfl rfl)
theorem dX5_wrong_31 : decode cX5_wrong 31 = .ok (.baload, 1) := dk_51 (dk_at dksX5_wrong_1 7 rfl rfl)
theorem dX5_wrong_32 : decode cX5_wrong 32 = .ok (.ifCond .ne 6, 3) := dk_154 0 6 (dk_at dksX5_wrong_1 8 rfl rfl)
theorem dX5_wrong_35 : decode cX5_wrong 35 = .ok (.bipush (-11), 2) := dk_16 245 (dk_at dksX5_wrong_1 11 rfl rfl)
theorem dX5_wrong_37 : decode cX5_wrong 37 = .ok (.ireturn, 1) := dk_172 (dk_at dksX5_wrong_1 13 rfl rfl)
theorem dX5_wrong_38 : decode cX5_wrong 38 = .ok (.aload_n 0, 1) := dk_42 (dk_at dksX5_wrong_1 14 rfl rfl)
theorem dX5_wrong_39 : decode cX5_wrong 39 = .ok (.getfield 56, 3) := dk_180 0 56 (dk_at dksX5_wrong_1 15 rfl rfl)
theorem dX5_wrong_42 : decode cX5_wrong 42 = .ok (.iload_n 1, 1) := dk_27 (dk_at dksX5_wrong_1 18 rfl rfl)
theorem dX5_wrong_43 : decode cX5_wrong 43 = .ok (.iaload, 1) := dk_46 (dk_at dksX5_wrong_1 19 rfl rfl)
theorem dX5_wrong_44 : decode cX5_wrong 44 = .ok (.iload_n 2, 1) := dk_28 (dk_at dksX5_wrong_1 20 rfl rfl)
theorem dX5_wrong_45 : decode cX5_wrong 45 = .ok (.if_icmp .eq 6, 3) := dk_159 0 6 (dk_at dksX5_wrong_1 21 rfl rfl)
theorem dX5_wrong_48 : decode cX5_wrong 48 = .ok (.bipush (-13), 2) := dk_16 243 (dk_at dksX5_wrong_2 0 rfl rfl)
theorem dX5_wrong_50 : decode cX5_wrong 50 = .ok (.ireturn, 1) := dk_172 (dk_at dksX5_wrong_2 2 rfl rfl)
theorem dX5_wrong_51 : decode cX5_wrong 51 = .ok (.iload_n 3, 1) := dk_29 (dk_at dksX5_wrong_2 3 rfl rfl)
theorem dX5_wrong_52 : decode cX5_wrong 52 = .ok (.i2l, 1) := dk_133 (dk_at dksX5_wrong_2 4 rfl rfl)
theorem dX5_wrong_53 : decode cX5_wrong 53 = .ok (.lconst 0, 1) := dk_9 (dk_at dksX5_wrong_2 5 rfl rfl)
theorem dX5_wrong_54 : decode cX5_wrong 54 = .ok (.aload_n 0, 1) := dk_42 (dk_at dksX5_wrong_2 6 rfl rfl)
theorem dX5_wrong_55 : decode cX5_wrong 55 = .ok (.getfield 59, 3) := dk_180 0 59 (dk_at dksX5_wrong_2 7 rfl rfl)
theorem dX5_wrong_58 : decode cX5_wrong 58 = .ok (.iload_n 1, 1) := dk_27 (dk_at dksX5_wrong_2 10 rfl rfl)
theorem dX5_wrong_59 : decode cX5_wrong 59 = .ok (.iaload, 1) := dk_46 (dk_at dksX5_wrong_2 11 rfl rfl)
theorem dX5_wrong_60 : decode cX5_wrong 60 = .ok (.iconst 1, 1) := dk_4 (dk_at dksX5_wrong_2 12 rfl rfl)
theorem dX5_wrong_61 : decode cX5_wrong 61 = .ok (.isub, 1) := dk_100 (dk_at dksX5_wrong_2 13 rfl rfl)
theorem dX5_wrong_62 : decode cX5_wrong 62 = .ok (.i2l, 1) := dk_133 (dk_at dksX5_wrong_2 14 rfl rfl)
theorem dX5_wrong_63 : decode cX5_wrong 63 = .ok (.invokestatic 85, 3) := dk_184 0 85 (dk_at dksX5_wrong_2 15 rfl rfl)
theorem dX5_wrong_66 : decode cX5_wrong 66 = .ok (.ifCond .ne 6, 3) := dk_154 0 6 (dk_at dksX5_wrong_2 18 rfl rfl)
theorem dX5_wrong_69 : decode cX5_wrong 69 = .ok (.bipush (-12), 2) := dk_16 244 (dk_at dksX5_wrong_2 21 rfl rfl)
theorem dX5_wrong_71 : decode cX5_wrong 71 = .ok (.ireturn, 1) := dk_172 (dk_at dksX5_wrong_2 23 rfl rfl)
theorem dX5_wrong_72 : decode cX5_wrong 72 = .ok (.aload_n 0, 1) := dk_42 (dk_at dksX5_wrong_3 0 rfl rfl)
theorem dX5_wrong_73 : decode cX5_wrong 73 = .ok (.getfield 62, 3) := dk_180 0 62 (dk_at dksX5_wrong_3 1 rfl rfl)
theorem dX5_wrong_76 : decode cX5_wrong 76 = .ok (.iconst 4, 1) := dk_7 (dk_at dksX5_wrong_3 4 rfl rfl)
theorem dX5_wrong_77 : decode cX5_wrong 77 = .ok (.iload_n 1, 1) := dk_27 (dk_at dksX5_wrong_3 5 rfl rfl)
theorem dX5_wrong_78 : decode cX5_wrong 78 = .ok (.imul, 1) := dk_104 (dk_at dksX5_wrong_3 6 rfl rfl)
theorem dX5_wrong_79 : decode cX5_wrong 79 = .ok (.iload_n 3, 1) := dk_29 (dk_at dksX5_wrong_3 7 rfl rfl)
theorem dX5_wrong_80 : decode cX5_wrong 80 = .ok (.iadd, 1) := dk_96 (dk_at dksX5_wrong_3 8 rfl rfl)
theorem dX5_wrong_81 : decode cX5_wrong 81 = .ok (.iaload, 1) := dk_46 (dk_at dksX5_wrong_3 9 rfl rfl)
theorem dX5_wrong_82 : decode cX5_wrong 82 = .ok (.istore 5, 2) := dk_54 5 (dk_at dksX5_wrong_3 10 rfl rfl)
theorem dX5_wrong_84 : decode cX5_wrong 84 = .ok (.iload 5, 2) := dk_21 5 (dk_at dksX5_wrong_3 12 rfl rfl)
theorem dX5_wrong_86 : decode cX5_wrong 86 = .ok (.bipush (-9), 2) := dk_16 247 (dk_at dksX5_wrong_3 14 rfl rfl)
theorem dX5_wrong_88 : decode cX5_wrong 88 = .ok (.if_icmp .ne 8, 3) := dk_160 0 8 (dk_at dksX5_wrong_3 16 rfl rfl)
theorem dX5_wrong_91 : decode cX5_wrong 91 = .ok (.bipush (-11), 2) := dk_16 245 (dk_at dksX5_wrong_3 19 rfl rfl)
theorem dX5_wrong_93 : decode cX5_wrong 93 = .ok (.goto 24, 3) := dk_167 0 24 (dk_at dksX5_wrong_3 21 rfl rfl)
theorem dX5_wrong_96 : decode cX5_wrong 96 = .ok (.iload 4, 2) := dk_21 4 (dk_at dksX5_wrong_4 0 rfl rfl)
theorem dX5_wrong_98 : decode cX5_wrong 98 = .ok (.i2l, 1) := dk_133 (dk_at dksX5_wrong_4 2 rfl rfl)
theorem dX5_wrong_99 : decode cX5_wrong 99 = .ok (.lconst 0, 1) := dk_9 (dk_at dksX5_wrong_4 3 rfl rfl)
theorem dX5_wrong_100 : decode cX5_wrong 100 = .ok (.iload 5, 2) := dk_21 5 (dk_at dksX5_wrong_4 4 rfl rfl)
theorem dX5_wrong_102 : decode cX5_wrong 102 = .ok (.iconst 1, 1) := dk_4 (dk_at dksX5_wrong_4 6 rfl rfl)
theorem dX5_wrong_103 : decode cX5_wrong 103 = .ok (.isub, 1) := dk_100 (dk_at dksX5_wrong_4 7 rfl rfl)
theorem dX5_wrong_104 : decode cX5_wrong 104 = .ok (.i2l, 1) := dk_133 (dk_at dksX5_wrong_4 8 rfl rfl)
theorem dX5_wrong_105 : decode cX5_wrong 105 = .ok (.invokestatic 85, 3) := dk_184 0 85 (dk_at dksX5_wrong_4 9 rfl rfl)
theorem dX5_wrong_108 : decode cX5_wrong 108 = .ok (.ifCond .eq 7, 3) := dk_153 0 7 (dk_at dksX5_wrong_4 12 rfl rfl)
theorem dX5_wrong_111 : decode cX5_wrong 111 = .ok (.iconst 0, 1) := dk_3 (dk_at dksX5_wrong_4 15 rfl rfl)
theorem dX5_wrong_112 : decode cX5_wrong 112 = .ok (.goto 5, 3) := dk_167 0 5 (dk_at dksX5_wrong_4 16 rfl rfl)
theorem dX5_wrong_115 : decode cX5_wrong 115 = .ok (.bipush (-12), 2) := dk_16 244 (dk_at dksX5_wrong_4 19 rfl rfl)
theorem dX5_wrong_117 : decode cX5_wrong 117 = .ok (.ireturn, 1) := dk_172 (dk_at dksX5_wrong_4 21 rfl rfl)
abbrev cX5_item : ByteArray := prog_13_method_47_code
def yX5_item : MethodName := ⟨RX5, "item", "(IIII)J"⟩
def dkwX5_item_2 : List UInt8 := [173]
abbrev dktX5_item_2 : List UInt8 := dkwX5_item_2 ++ []
def dkwX5_item_1 : List UInt8 := [156, 0, 7, 9, 167, 0, 20, 42, 180, 0, 65, 16, 32, 27, 104, 16, 8, 29, 104, 96, 21, 4, 96, 47]
abbrev dktX5_item_1 : List UInt8 := dkwX5_item_1 ++ dktX5_item_2
def dkwX5_item_0 : List UInt8 := [42, 3, 181, 0, 78, 42, 42, 27, 28, 29, 21, 4, 182, 0, 198, 181, 0, 192, 42, 180, 0, 192]
abbrev dktX5_item_0 : List UInt8 := dkwX5_item_0 ++ dktX5_item_1
theorem dksX5_item_0 : cX5_item.data.toList.drop 0 = dktX5_item_0 := by decide +kernel
theorem dksX5_item_1 : cX5_item.data.toList.drop 22 = dktX5_item_1 := dk_seg dksX5_item_0 22 rfl rfl
theorem dksX5_item_2 : cX5_item.data.toList.drop 46 = dktX5_item_2 := dk_seg dksX5_item_1 24 rfl rfl
theorem dX5_item_0 : decode cX5_item 0 = .ok (.aload_n 0, 1) := dk_42 (dk_at dksX5_item_0 0 rfl rfl)
theorem dX5_item_1 : decode cX5_item 1 = .ok (.iconst 0, 1) := dk_3 (dk_at dksX5_item_0 1 rfl rfl)
theorem dX5_item_2 : decode cX5_item 2 = .ok (.putfield 78, 3) := dk_181 0 78 (dk_at dksX5_item_0 2 rfl rfl)
theorem dX5_item_5 : decode cX5_item 5 = .ok (.aload_n 0, 1) := dk_42 (dk_at dksX5_item_0 5 rfl rfl)
theorem dX5_item_6 : decode cX5_item 6 = .ok (.aload_n 0, 1) := dk_42 (dk_at dksX5_item_0 6 rfl rfl)
theorem dX5_item_7 : decode cX5_item 7 = .ok (.iload_n 1, 1) := dk_27 (dk_at dksX5_item_0 7 rfl rfl)
theorem dX5_item_8 : decode cX5_item 8 = .ok (.iload_n 2, 1) := dk_28 (dk_at dksX5_item_0 8 rfl rfl)
theorem dX5_item_9 : decode cX5_item 9 = .ok (.iload_n 3, 1) := dk_29 (dk_at dksX5_item_0 9 rfl rfl)
theorem dX5_item_10 : decode cX5_item 10 = .ok (.iload 4, 2) := dk_21 4 (dk_at dksX5_item_0 10 rfl rfl)
theorem dX5_item_12 : decode cX5_item 12 = .ok (.invokevirtual 198, 3) := dk_182 0 198 (dk_at dksX5_item_0 12 rfl rfl)
theorem dX5_item_15 : decode cX5_item 15 = .ok (.putfield 192, 3) := dk_181 0 192 (dk_at dksX5_item_0 15 rfl rfl)
theorem dX5_item_18 : decode cX5_item 18 = .ok (.aload_n 0, 1) := dk_42 (dk_at dksX5_item_0 18 rfl rfl)
theorem dX5_item_19 : decode cX5_item 19 = .ok (.getfield 192, 3) := dk_180 0 192 (dk_at dksX5_item_0 19 rfl rfl)
theorem dX5_item_22 : decode cX5_item 22 = .ok (.ifCond .ge 7, 3) := dk_156 0 7 (dk_at dksX5_item_1 0 rfl rfl)
theorem dX5_item_25 : decode cX5_item 25 = .ok (.lconst 0, 1) := dk_9 (dk_at dksX5_item_1 3 rfl rfl)
theorem dX5_item_26 : decode cX5_item 26 = .ok (.goto 20, 3) := dk_167 0 20 (dk_at dksX5_item_1 4 rfl rfl)
theorem dX5_item_29 : decode cX5_item 29 = .ok (.aload_n 0, 1) := dk_42 (dk_at dksX5_item_1 7 rfl rfl)
theorem dX5_item_30 : decode cX5_item 30 = .ok (.getfield 65, 3) := dk_180 0 65 (dk_at dksX5_item_1 8 rfl rfl)
theorem dX5_item_33 : decode cX5_item 33 = .ok (.bipush 32, 2) := dk_16 32 (dk_at dksX5_item_1 11 rfl rfl)
theorem dX5_item_35 : decode cX5_item 35 = .ok (.iload_n 1, 1) := dk_27 (dk_at dksX5_item_1 13 rfl rfl)
theorem dX5_item_36 : decode cX5_item 36 = .ok (.imul, 1) := dk_104 (dk_at dksX5_item_1 14 rfl rfl)
theorem dX5_item_37 : decode cX5_item 37 = .ok (.bipush 8, 2) := dk_16 8 (dk_at dksX5_item_1 15 rfl rfl)
theorem dX5_item_39 : decode cX5_item 39 = .ok (.iload_n 3, 1) := dk_29 (dk_at dksX5_item_1 17 rfl rfl)
theorem dX5_item_40 : decode cX5_item 40 = .ok (.imul, 1) := dk_104 (dk_at dksX5_item_1 18 rfl rfl)
theorem dX5_item_41 : decode cX5_item 41 = .ok (.iadd, 1) := dk_96 (dk_at dksX5_item_1 19 rfl rfl)
theorem dX5_item_42 : decode cX5_item 42 = .ok (.iload 4, 2) := dk_21 4 (dk_at dksX5_item_1 20 rfl rfl)
theorem dX5_item_44 : decode cX5_item 44 = .ok (.iadd, 1) := dk_96 (dk_at dksX5_item_1 22 rfl rfl)
theorem dX5_item_45 : decode cX5_item 45 = .ok (.laload, 1) := dk_47 (dk_at dksX5_item_1 23 rfl rfl)
theorem dX5_item_46 : decode cX5_item 46 = .ok (.lreturn, 1) := dk_173 (dk_at dksX5_item_2 0 rfl rfl)
abbrev cX5_roads : ByteArray := prog_13_method_48_code
def yX5_roads : MethodName := ⟨RX5, "roads", "(I)I"⟩
def dkwX5_roads_6 : List UInt8 := [42, 21, 6, 181, 0, 192, 28, 172, 132, 2, 1, 132, 3, 1, 167, 255, 150, 28, 172]
abbrev dktX5_roads_6 : List UInt8 := dkwX5_roads_6 ++ []
def dkwX5_roads_5 : List UInt8 := [21, 5, 4, 96, 47, 42, 180, 0, 65, 21, 5, 5, 96, 47, 182, 0, 101, 54, 6, 21, 6, 156, 0, 11]
abbrev dktX5_roads_5 : List UInt8 := dkwX5_roads_5 ++ dktX5_roads_6
def dkwX5_roads_4 : List UInt8 := [21, 4, 6, 162, 0, 8, 16, 244, 167, 0, 32, 42, 42, 180, 0, 65, 21, 5, 47, 42, 180, 0, 65]
abbrev dktX5_roads_4 : List UInt8 := dkwX5_roads_4 ++ dktX5_roads_5
def dkwX5_roads_3 : List UInt8 := [16, 32, 27, 104, 16, 8, 29, 104, 96, 54, 5, 21, 4, 16, 247, 160, 0, 8, 16, 245, 167, 0, 43]
abbrev dktX5_roads_3 : List UInt8 := dkwX5_roads_3 ++ dktX5_roads_4
def dkwX5_roads_2 : List UInt8 := [62, 29, 42, 180, 0, 59, 27, 46, 162, 0, 102, 42, 180, 0, 62, 7, 27, 104, 29, 96, 46, 54, 4]
abbrev dktX5_roads_2 : List UInt8 := dkwX5_roads_2 ++ dktX5_roads_3
def dkwX5_roads_1 : List UInt8 := [182, 0, 195, 172, 42, 180, 0, 52, 27, 51, 154, 0, 11, 42, 16, 245, 181, 0, 192, 3, 172, 3, 61, 3]
abbrev dktX5_roads_1 : List UInt8 := dkwX5_roads_1 ++ dktX5_roads_2
def dkwX5_roads_0 : List UInt8 := [42, 3, 181, 0, 78, 42, 3, 181, 0, 192, 27, 133, 9, 20, 0, 190, 184, 0, 85, 154, 0, 9, 42, 2]
abbrev dktX5_roads_0 : List UInt8 := dkwX5_roads_0 ++ dktX5_roads_1
theorem dksX5_roads_0 : cX5_roads.data.toList.drop 0 = dktX5_roads_0 := by decide +kernel
theorem dksX5_roads_1 : cX5_roads.data.toList.drop 24 = dktX5_roads_1 := dk_seg dksX5_roads_0 24 rfl rfl
theorem dksX5_roads_2 : cX5_roads.data.toList.drop 48 = dktX5_roads_2 := dk_seg dksX5_roads_1 24 rfl rfl
theorem dksX5_roads_3 : cX5_roads.data.toList.drop 71 = dktX5_roads_3 := dk_seg dksX5_roads_2 23 rfl rfl
theorem dksX5_roads_4 : cX5_roads.data.toList.drop 94 = dktX5_roads_4 := dk_seg dksX5_roads_3 23 rfl rfl
theorem dksX5_roads_5 : cX5_roads.data.toList.drop 117 = dktX5_roads_5 := dk_seg dksX5_roads_4 23 rfl rfl
theorem dksX5_roads_6 : cX5_roads.data.toList.drop 141 = dktX5_roads_6 := dk_seg dksX5_roads_5 24 rfl rfl
theorem dX5_roads_0 : decode cX5_roads 0 = .ok (.aload_n 0, 1) := dk_42 (dk_at dksX5_roads_0 0 rfl rfl)
theorem dX5_roads_1 : decode cX5_roads 1 = .ok (.iconst 0, 1) := dk_3 (dk_at dksX5_roads_0 1 rfl rfl)
theorem dX5_roads_2 : decode cX5_roads 2 = .ok (.putfield 78, 3) := dk_181 0 78 (dk_at dksX5_roads_0 2 rfl rfl)
theorem dX5_roads_5 : decode cX5_roads 5 = .ok (.aload_n 0, 1) := dk_42 (dk_at dksX5_roads_0 5 rfl rfl)
theorem dX5_roads_6 : decode cX5_roads 6 = .ok (.iconst 0, 1) := dk_3 (dk_at dksX5_roads_0 6 rfl rfl)
theorem dX5_roads_7 : decode cX5_roads 7 = .ok (.putfield 192, 3) := dk_181 0 192 (dk_at dksX5_roads_0 7 rfl rfl)
theorem dX5_roads_10 : decode cX5_roads 10 = .ok (.iload_n 1, 1) := dk_27 (dk_at dksX5_roads_0 10 rfl rfl)
theorem dX5_roads_11 : decode cX5_roads 11 = .ok (.i2l, 1) := dk_133 (dk_at dksX5_roads_0 11 rfl rfl)
theorem dX5_roads_12 : decode cX5_roads 12 = .ok (.lconst 0, 1) := dk_9 (dk_at dksX5_roads_0 12 rfl rfl)
theorem dX5_roads_13 : decode cX5_roads 13 = .ok (.ldc2_w 190, 3) := dk_20 0 190 (dk_at dksX5_roads_0 13 rfl rfl)
theorem dX5_roads_16 : decode cX5_roads 16 = .ok (.invokestatic 85, 3) := dk_184 0 85 (dk_at dksX5_roads_0 16 rfl rfl)
theorem dX5_roads_19 : decode cX5_roads 19 = .ok (.ifCond .ne 9, 3) := dk_154 0 9 (dk_at dksX5_roads_0 19 rfl rfl)
theorem dX5_roads_22 : decode cX5_roads 22 = .ok (.aload_n 0, 1) := dk_42 (dk_at dksX5_roads_0 22 rfl rfl)
theorem dX5_roads_23 : decode cX5_roads 23 = .ok (.iconst (-1), 1) := dk_2 (dk_at dksX5_roads_0 23 rfl rfl)
theorem dX5_roads_24 : decode cX5_roads 24 = .ok (.invokevirtual 195, 3) := dk_182 0 195 (dk_at dksX5_roads_1 0 rfl rfl)
theorem dX5_roads_27 : decode cX5_roads 27 = .ok (.ireturn, 1) := dk_172 (dk_at dksX5_roads_1 3 rfl rfl)
theorem dX5_roads_28 : decode cX5_roads 28 = .ok (.aload_n 0, 1) := dk_42 (dk_at dksX5_roads_1 4 rfl rfl)
theorem dX5_roads_29 : decode cX5_roads 29 = .ok (.getfield 52, 3) := dk_180 0 52 (dk_at dksX5_roads_1 5 rfl rfl)
theorem dX5_roads_32 : decode cX5_roads 32 = .ok (.iload_n 1, 1) := dk_27 (dk_at dksX5_roads_1 8 rfl rfl)
theorem dX5_roads_33 : decode cX5_roads 33 = .ok (.baload, 1) := dk_51 (dk_at dksX5_roads_1 9 rfl rfl)
theorem dX5_roads_34 : decode cX5_roads 34 = .ok (.ifCond .ne 11, 3) := dk_154 0 11 (dk_at dksX5_roads_1 10 rfl rfl)
theorem dX5_roads_37 : decode cX5_roads 37 = .ok (.aload_n 0, 1) := dk_42 (dk_at dksX5_roads_1 13 rfl rfl)
theorem dX5_roads_38 : decode cX5_roads 38 = .ok (.bipush (-11), 2) := dk_16 245 (dk_at dksX5_roads_1 14 rfl rfl)
theorem dX5_roads_40 : decode cX5_roads 40 = .ok (.putfield 192, 3) := dk_181 0 192 (dk_at dksX5_roads_1 16 rfl rfl)
theorem dX5_roads_43 : decode cX5_roads 43 = .ok (.iconst 0, 1) := dk_3 (dk_at dksX5_roads_1 19 rfl rfl)
theorem dX5_roads_44 : decode cX5_roads 44 = .ok (.ireturn, 1) := dk_172 (dk_at dksX5_roads_1 20 rfl rfl)
theorem dX5_roads_45 : decode cX5_roads 45 = .ok (.iconst 0, 1) := dk_3 (dk_at dksX5_roads_1 21 rfl rfl)
theorem dX5_roads_46 : decode cX5_roads 46 = .ok (.istore_n 2, 1) := dk_61 (dk_at dksX5_roads_1 22 rfl rfl)
theorem dX5_roads_47 : decode cX5_roads 47 = .ok (.iconst 0, 1) := dk_3 (dk_at dksX5_roads_1 23 rfl rfl)
theorem dX5_roads_48 : decode cX5_roads 48 = .ok (.istore_n 3, 1) := dk_62 (dk_at dksX5_roads_2 0 rfl rfl)
theorem dX5_roads_49 : decode cX5_roads 49 = .ok (.iload_n 3, 1) := dk_29 (dk_at dksX5_roads_2 1 rfl rfl)
theorem dX5_roads_50 : decode cX5_roads 50 = .ok (.aload_n 0, 1) := dk_42 (dk_at dksX5_roads_2 2 rfl rfl)
theorem dX5_roads_51 : decode cX5_roads 51 = .ok (.getfield 59, 3) := dk_180 0 59 (dk_at dksX5_roads_2 3 rfl rfl)
theorem dX5_roads_54 : decode cX5_roads 54 = .ok (.iload_n 1, 1) := dk_27 (dk_at dksX5_roads_2 6 rfl rfl)
theorem dX5_roads_55 : decode cX5_roads 55 = .ok (.iaload, 1) := dk_46 (dk_at dksX5_roads_2 7 rfl rfl)
theorem dX5_roads_56 : decode cX5_roads 56 = .ok (.if_icmp .ge 102, 3) := dk_162 0 102 (dk_at dksX5_roads_2 8 rfl rfl)
theorem dX5_roads_59 : decode cX5_roads 59 = .ok (.aload_n 0, 1) := dk_42 (dk_at dksX5_roads_2 11 rfl rfl)
theorem dX5_roads_60 : decode cX5_roads 60 = .ok (.getfield 62, 3) := dk_180 0 62 (dk_at dksX5_roads_2 12 rfl rfl)
theorem dX5_roads_63 : decode cX5_roads 63 = .ok (.iconst 4, 1) := dk_7 (dk_at dksX5_roads_2 15 rfl rfl)
theorem dX5_roads_64 : decode cX5_roads 64 = .ok (.iload_n 1, 1) := dk_27 (dk_at dksX5_roads_2 16 rfl rfl)
theorem dX5_roads_65 : decode cX5_roads 65 = .ok (.imul, 1) := dk_104 (dk_at dksX5_roads_2 17 rfl rfl)
theorem dX5_roads_66 : decode cX5_roads 66 = .ok (.iload_n 3, 1) := dk_29 (dk_at dksX5_roads_2 18 rfl rfl)
theorem dX5_roads_67 : decode cX5_roads 67 = .ok (.iadd, 1) := dk_96 (dk_at dksX5_roads_2 19 rfl rfl)
theorem dX5_roads_68 : decode cX5_roads 68 = .ok (.iaload, 1) := dk_46 (dk_at dksX5_roads_2 20 rfl rfl)
theorem dX5_roads_69 : decode cX5_roads 69 = .ok (.istore 4, 2) := dk_54 4 (dk_at dksX5_roads_2 21 rfl rfl)
theorem dX5_roads_71 : decode cX5_roads 71 = .ok (.bipush 32, 2) := dk_16 32 (dk_at dksX5_roads_3 0 rfl rfl)
theorem dX5_roads_73 : decode cX5_roads 73 = .ok (.iload_n 1, 1) := dk_27 (dk_at dksX5_roads_3 2 rfl rfl)
theorem dX5_roads_74 : decode cX5_roads 74 = .ok (.imul, 1) := dk_104 (dk_at dksX5_roads_3 3 rfl rfl)
theorem dX5_roads_75 : decode cX5_roads 75 = .ok (.bipush 8, 2) := dk_16 8 (dk_at dksX5_roads_3 4 rfl rfl)
theorem dX5_roads_77 : decode cX5_roads 77 = .ok (.iload_n 3, 1) := dk_29 (dk_at dksX5_roads_3 6 rfl rfl)
theorem dX5_roads_78 : decode cX5_roads 78 = .ok (.imul, 1) := dk_104 (dk_at dksX5_roads_3 7 rfl rfl)
theorem dX5_roads_79 : decode cX5_roads 79 = .ok (.iadd, 1) := dk_96 (dk_at dksX5_roads_3 8 rfl rfl)
theorem dX5_roads_80 : decode cX5_roads 80 = .ok (.istore 5, 2) := dk_54 5 (dk_at dksX5_roads_3 9 rfl rfl)
theorem dX5_roads_82 : decode cX5_roads 82 = .ok (.iload 4, 2) := dk_21 4 (dk_at dksX5_roads_3 11 rfl rfl)
theorem dX5_roads_84 : decode cX5_roads 84 = .ok (.bipush (-9), 2) := dk_16 247 (dk_at dksX5_roads_3 13 rfl rfl)
theorem dX5_roads_86 : decode cX5_roads 86 = .ok (.if_icmp .ne 8, 3) := dk_160 0 8 (dk_at dksX5_roads_3 15 rfl rfl)
theorem dX5_roads_89 : decode cX5_roads 89 = .ok (.bipush (-11), 2) := dk_16 245 (dk_at dksX5_roads_3 18 rfl rfl)
theorem dX5_roads_91 : decode cX5_roads 91 = .ok (.goto 43, 3) := dk_167 0 43 (dk_at dksX5_roads_3 20 rfl rfl)
theorem dX5_roads_94 : decode cX5_roads 94 = .ok (.iload 4, 2) := dk_21 4 (dk_at dksX5_roads_4 0 rfl rfl)
theorem dX5_roads_96 : decode cX5_roads 96 = .ok (.iconst 3, 1) := dk_6 (dk_at dksX5_roads_4 2 rfl rfl)
theorem dX5_roads_97 : decode cX5_roads 97 = .ok (.if_icmp .ge 8, 3) := dk_162 0 8 (dk_at dksX5_roads_4 3 rfl rfl)
theorem dX5_roads_100 : decode cX5_roads 100 = .ok (.bipush (-12), 2) := dk_16 244 (dk_at dksX5_roads_4 6 rfl rfl)
theorem dX5_roads_102 : decode cX5_roads 102 = .ok (.goto 32, 3) := dk_167 0 32 (dk_at dksX5_roads_4 8 rfl rfl)
theorem dX5_roads_105 : decode cX5_roads 105 = .ok (.aload_n 0, 1) := dk_42 (dk_at dksX5_roads_4 11 rfl rfl)
theorem dX5_roads_106 : decode cX5_roads 106 = .ok (.aload_n 0, 1) := dk_42 (dk_at dksX5_roads_4 12 rfl rfl)
theorem dX5_roads_107 : decode cX5_roads 107 = .ok (.getfield 65, 3) := dk_180 0 65 (dk_at dksX5_roads_4 13 rfl rfl)
theorem dX5_roads_110 : decode cX5_roads 110 = .ok (.iload 5, 2) := dk_21 5 (dk_at dksX5_roads_4 16 rfl rfl)
theorem dX5_roads_112 : decode cX5_roads 112 = .ok (.laload, 1) := dk_47 (dk_at dksX5_roads_4 18 rfl rfl)
theorem dX5_roads_113 : decode cX5_roads 113 = .ok (.aload_n 0, 1) := dk_42 (dk_at dksX5_roads_4 19 rfl rfl)
theorem dX5_roads_114 : decode cX5_roads 114 = .ok (.getfield 65, 3) := dk_180 0 65 (dk_at dksX5_roads_4 20 rfl rfl)
theorem dX5_roads_117 : decode cX5_roads 117 = .ok (.iload 5, 2) := dk_21 5 (dk_at dksX5_roads_5 0 rfl rfl)
theorem dX5_roads_119 : decode cX5_roads 119 = .ok (.iconst 1, 1) := dk_4 (dk_at dksX5_roads_5 2 rfl rfl)
theorem dX5_roads_120 : decode cX5_roads 120 = .ok (.iadd, 1) := dk_96 (dk_at dksX5_roads_5 3 rfl rfl)
theorem dX5_roads_121 : decode cX5_roads 121 = .ok (.laload, 1) := dk_47 (dk_at dksX5_roads_5 4 rfl rfl)
theorem dX5_roads_122 : decode cX5_roads 122 = .ok (.aload_n 0, 1) := dk_42 (dk_at dksX5_roads_5 5 rfl rfl)
theorem dX5_roads_123 : decode cX5_roads 123 = .ok (.getfield 65, 3) := dk_180 0 65 (dk_at dksX5_roads_5 6 rfl rfl)
theorem dX5_roads_126 : decode cX5_roads 126 = .ok (.iload 5, 2) := dk_21 5 (dk_at dksX5_roads_5 9 rfl rfl)
theorem dX5_roads_128 : decode cX5_roads 128 = .ok (.iconst 2, 1) := dk_5 (dk_at dksX5_roads_5 11 rfl rfl)
theorem dX5_roads_129 : decode cX5_roads 129 = .ok (.iadd, 1) := dk_96 (dk_at dksX5_roads_5 12 rfl rfl)
theorem dX5_roads_130 : decode cX5_roads 130 = .ok (.laload, 1) := dk_47 (dk_at dksX5_roads_5 13 rfl rfl)
theorem dX5_roads_131 : decode cX5_roads 131 = .ok (.invokevirtual 101, 3) := dk_182 0 101 (dk_at dksX5_roads_5 14 rfl rfl)
theorem dX5_roads_134 : decode cX5_roads 134 = .ok (.istore 6, 2) := dk_54 6 (dk_at dksX5_roads_5 17 rfl rfl)
theorem dX5_roads_136 : decode cX5_roads 136 = .ok (.iload 6, 2) := dk_21 6 (dk_at dksX5_roads_5 19 rfl rfl)
theorem dX5_roads_138 : decode cX5_roads 138 = .ok (.ifCond .ge 11, 3) := dk_156 0 11 (dk_at dksX5_roads_5 21 rfl rfl)
theorem dX5_roads_141 : decode cX5_roads 141 = .ok (.aload_n 0, 1) := dk_42 (dk_at dksX5_roads_6 0 rfl rfl)
theorem dX5_roads_142 : decode cX5_roads 142 = .ok (.iload 6, 2) := dk_21 6 (dk_at dksX5_roads_6 1 rfl rfl)
theorem dX5_roads_144 : decode cX5_roads 144 = .ok (.putfield 192, 3) := dk_181 0 192 (dk_at dksX5_roads_6 3 rfl rfl)
theorem dX5_roads_147 : decode cX5_roads 147 = .ok (.iload_n 2, 1) := dk_28 (dk_at dksX5_roads_6 6 rfl rfl)
theorem dX5_roads_148 : decode cX5_roads 148 = .ok (.ireturn, 1) := dk_172 (dk_at dksX5_roads_6 7 rfl rfl)
theorem dX5_roads_149 : decode cX5_roads 149 = .ok (.iinc 2 1, 3) := dk_132 2 1 (dk_at dksX5_roads_6 8 rfl rfl)
theorem dX5_roads_152 : decode cX5_roads 152 = .ok (.iinc 3 1, 3) := dk_132 3 1 (dk_at dksX5_roads_6 11 rfl rfl)
theorem dX5_roads_155 : decode cX5_roads 155 = .ok (.goto (-106), 3) := dk_167 255 150 (dk_at dksX5_roads_6 14 rfl rfl)
theorem dX5_roads_158 : decode cX5_roads 158 = .ok (.iload_n 2, 1) := dk_28 (dk_at dksX5_roads_6 17 rfl rfl)
theorem dX5_roads_159 : decode cX5_roads 159 = .ok (.ireturn, 1) := dk_172 (dk_at dksX5_roads_6 18 rfl rfl)
abbrev cX5_calls : ByteArray := prog_13_method_49_code
def yX5_calls : MethodName := ⟨RX5, "calls", "(II)I"⟩
def dkwX5_calls_9 : List UInt8 := [132, 3, 1, 132, 4, 1, 167, 255, 148, 29, 172]
abbrev dktX5_calls_9 : List UInt8 := dkwX5_calls_9 ++ []
def dkwX5_calls_8 : List UInt8 := [154, 0, 8, 16, 254, 167, 0, 5, 16, 253, 181, 0, 192, 29, 172, 42, 22, 5, 136, 182, 0, 179, 54, 7]
abbrev dktX5_calls_8 : List UInt8 := dkwX5_calls_8 ++ dktX5_calls_9
def dkwX5_calls_7 : List UInt8 := [172, 42, 180, 0, 96, 153, 0, 12, 42, 180, 0, 165, 16, 12, 160, 0, 23, 42, 42, 180, 0, 96]
abbrev dktX5_calls_7 : List UInt8 := dkwX5_calls_7 ++ dktX5_calls_8
def dkwX5_calls_6 : List UInt8 := [55, 5, 22, 5, 9, 42, 180, 0, 82, 4, 100, 133, 184, 0, 85, 154, 0, 10, 42, 2, 181, 0, 192, 29]
abbrev dktX5_calls_6 : List UInt8 := dkwX5_calls_6 ++ dktX5_calls_7
def dkwX5_calls_5 : List UInt8 := [104, 28, 96, 46, 162, 0, 99, 42, 180, 0, 65, 16, 32, 27, 104, 16, 8, 28, 104, 96, 21, 4, 96, 47]
abbrev dktX5_calls_5 : List UInt8 := dkwX5_calls_5 ++ dktX5_calls_6
def dkwX5_calls_4 : List UInt8 := [154, 0, 11, 42, 16, 244, 181, 0, 192, 3, 172, 3, 62, 3, 54, 4, 21, 4, 42, 180, 0, 62, 7, 27]
abbrev dktX5_calls_4 : List UInt8 := dkwX5_calls_4 ++ dktX5_calls_5
def dkwX5_calls_3 : List UInt8 := [16, 245, 181, 0, 192, 3, 172, 28, 133, 9, 42, 180, 0, 59, 27, 46, 4, 100, 133, 184, 0, 85]
abbrev dktX5_calls_3 : List UInt8 := dkwX5_calls_3 ++ dktX5_calls_4
def dkwX5_calls_2 : List UInt8 := [133, 184, 0, 85, 153, 0, 26, 42, 180, 0, 62, 7, 27, 104, 28, 96, 46, 16, 247, 160, 0, 11, 42]
abbrev dktX5_calls_2 : List UInt8 := dkwX5_calls_2 ++ dktX5_calls_3
def dkwX5_calls_1 : List UInt8 := [182, 0, 195, 172, 42, 180, 0, 52, 27, 51, 153, 0, 36, 28, 133, 9, 42, 180, 0, 59, 27, 46, 4, 100]
abbrev dktX5_calls_1 : List UInt8 := dkwX5_calls_1 ++ dktX5_calls_2
def dkwX5_calls_0 : List UInt8 := [42, 3, 181, 0, 78, 42, 3, 181, 0, 192, 27, 133, 9, 20, 0, 190, 184, 0, 85, 154, 0, 9, 42, 2]
abbrev dktX5_calls_0 : List UInt8 := dkwX5_calls_0 ++ dktX5_calls_1
theorem dksX5_calls_0 : cX5_calls.data.toList.drop 0 = dktX5_calls_0 := by decide +kernel
theorem dksX5_calls_1 : cX5_calls.data.toList.drop 24 = dktX5_calls_1 := dk_seg dksX5_calls_0 24 rfl rfl
theorem dksX5_calls_2 : cX5_calls.data.toList.drop 48 = dktX5_calls_2 := dk_seg dksX5_calls_1 24 rfl rfl
theorem dksX5_calls_3 : cX5_calls.data.toList.drop 71 = dktX5_calls_3 := dk_seg dksX5_calls_2 23 rfl rfl
theorem dksX5_calls_4 : cX5_calls.data.toList.drop 93 = dktX5_calls_4 := dk_seg dksX5_calls_3 22 rfl rfl
theorem dksX5_calls_5 : cX5_calls.data.toList.drop 117 = dktX5_calls_5 := dk_seg dksX5_calls_4 24 rfl rfl
theorem dksX5_calls_6 : cX5_calls.data.toList.drop 141 = dktX5_calls_6 := dk_seg dksX5_calls_5 24 rfl rfl
theorem dksX5_calls_7 : cX5_calls.data.toList.drop 165 = dktX5_calls_7 := dk_seg dksX5_calls_6 24 rfl rfl
theorem dksX5_calls_8 : cX5_calls.data.toList.drop 187 = dktX5_calls_8 := dk_seg dksX5_calls_7 22 rfl rfl
theorem dksX5_calls_9 : cX5_calls.data.toList.drop 211 = dktX5_calls_9 := dk_seg dksX5_calls_8 24 rfl rfl
theorem dX5_calls_0 : decode cX5_calls 0 = .ok (.aload_n 0, 1) := dk_42 (dk_at dksX5_calls_0 0 rfl rfl)
theorem dX5_calls_1 : decode cX5_calls 1 = .ok (.iconst 0, 1) := dk_3 (dk_at dksX5_calls_0 1 rfl rfl)
theorem dX5_calls_2 : decode cX5_calls 2 = .ok (.putfield 78, 3) := dk_181 0 78 (dk_at dksX5_calls_0 2 rfl rfl)
theorem dX5_calls_5 : decode cX5_calls 5 = .ok (.aload_n 0, 1) := dk_42 (dk_at dksX5_calls_0 5 rfl rfl)
theorem dX5_calls_6 : decode cX5_calls 6 = .ok (.iconst 0, 1) := dk_3 (dk_at dksX5_calls_0 6 rfl rfl)
theorem dX5_calls_7 : decode cX5_calls 7 = .ok (.putfield 192, 3) := dk_181 0 192 (dk_at dksX5_calls_0 7 rfl rfl)
theorem dX5_calls_10 : decode cX5_calls 10 = .ok (.iload_n 1, 1) := dk_27 (dk_at dksX5_calls_0 10 rfl rfl)
theorem dX5_calls_11 : decode cX5_calls 11 = .ok (.i2l, 1) := dk_133 (dk_at dksX5_calls_0 11 rfl rfl)
theorem dX5_calls_12 : decode cX5_calls 12 = .ok (.lconst 0, 1) := dk_9 (dk_at dksX5_calls_0 12 rfl rfl)
theorem dX5_calls_13 : decode cX5_calls 13 = .ok (.ldc2_w 190, 3) := dk_20 0 190 (dk_at dksX5_calls_0 13 rfl rfl)
theorem dX5_calls_16 : decode cX5_calls 16 = .ok (.invokestatic 85, 3) := dk_184 0 85 (dk_at dksX5_calls_0 16 rfl rfl)
theorem dX5_calls_19 : decode cX5_calls 19 = .ok (.ifCond .ne 9, 3) := dk_154 0 9 (dk_at dksX5_calls_0 19 rfl rfl)
theorem dX5_calls_22 : decode cX5_calls 22 = .ok (.aload_n 0, 1) := dk_42 (dk_at dksX5_calls_0 22 rfl rfl)
theorem dX5_calls_23 : decode cX5_calls 23 = .ok (.iconst (-1), 1) := dk_2 (dk_at dksX5_calls_0 23 rfl rfl)
theorem dX5_calls_24 : decode cX5_calls 24 = .ok (.invokevirtual 195, 3) := dk_182 0 195 (dk_at dksX5_calls_1 0 rfl rfl)
theorem dX5_calls_27 : decode cX5_calls 27 = .ok (.ireturn, 1) := dk_172 (dk_at dksX5_calls_1 3 rfl rfl)
theorem dX5_calls_28 : decode cX5_calls 28 = .ok (.aload_n 0, 1) := dk_42 (dk_at dksX5_calls_1 4 rfl rfl)
theorem dX5_calls_29 : decode cX5_calls 29 = .ok (.getfield 52, 3) := dk_180 0 52 (dk_at dksX5_calls_1 5 rfl rfl)
theorem dX5_calls_32 : decode cX5_calls 32 = .ok (.iload_n 1, 1) := dk_27 (dk_at dksX5_calls_1 8 rfl rfl)
theorem dX5_calls_33 : decode cX5_calls 33 = .ok (.baload, 1) := dk_51 (dk_at dksX5_calls_1 9 rfl rfl)
theorem dX5_calls_34 : decode cX5_calls 34 = .ok (.ifCond .eq 36, 3) := dk_153 0 36 (dk_at dksX5_calls_1 10 rfl rfl)
theorem dX5_calls_37 : decode cX5_calls 37 = .ok (.iload_n 2, 1) := dk_28 (dk_at dksX5_calls_1 13 rfl rfl)
theorem dX5_calls_38 : decode cX5_calls 38 = .ok (.i2l, 1) := dk_133 (dk_at dksX5_calls_1 14 rfl rfl)
theorem dX5_calls_39 : decode cX5_calls 39 = .ok (.lconst 0, 1) := dk_9 (dk_at dksX5_calls_1 15 rfl rfl)
theorem dX5_calls_40 : decode cX5_calls 40 = .ok (.aload_n 0, 1) := dk_42 (dk_at dksX5_calls_1 16 rfl rfl)
theorem dX5_calls_41 : decode cX5_calls 41 = .ok (.getfield 59, 3) := dk_180 0 59 (dk_at dksX5_calls_1 17 rfl rfl)
theorem dX5_calls_44 : decode cX5_calls 44 = .ok (.iload_n 1, 1) := dk_27 (dk_at dksX5_calls_1 20 rfl rfl)
theorem dX5_calls_45 : decode cX5_calls 45 = .ok (.iaload, 1) := dk_46 (dk_at dksX5_calls_1 21 rfl rfl)
theorem dX5_calls_46 : decode cX5_calls 46 = .ok (.iconst 1, 1) := dk_4 (dk_at dksX5_calls_1 22 rfl rfl)
theorem dX5_calls_47 : decode cX5_calls 47 = .ok (.isub, 1) := dk_100 (dk_at dksX5_calls_1 23 rfl rfl)
theorem dX5_calls_48 : decode cX5_calls 48 = .ok (.i2l, 1) := dk_133 (dk_at dksX5_calls_2 0 rfl rfl)
theorem dX5_calls_49 : decode cX5_calls 49 = .ok (.invokestatic 85, 3) := dk_184 0 85 (dk_at dksX5_calls_2 1 rfl rfl)
theorem dX5_calls_52 : decode cX5_calls 52 = .ok (.ifCond .eq 26, 3) := dk_153 0 26 (dk_at dksX5_calls_2 4 rfl rfl)
theorem dX5_calls_55 : decode cX5_calls 55 = .ok (.aload_n 0, 1) := dk_42 (dk_at dksX5_calls_2 7 rfl rfl)
theorem dX5_calls_56 : decode cX5_calls 56 = .ok (.getfield 62, 3) := dk_180 0 62 (dk_at dksX5_calls_2 8 rfl rfl)
theorem dX5_calls_59 : decode cX5_calls 59 = .ok (.iconst 4, 1) := dk_7 (dk_at dksX5_calls_2 11 rfl rfl)
theorem dX5_calls_60 : decode cX5_calls 60 = .ok (.iload_n 1, 1) := dk_27 (dk_at dksX5_calls_2 12 rfl rfl)
theorem dX5_calls_61 : decode cX5_calls 61 = .ok (.imul, 1) := dk_104 (dk_at dksX5_calls_2 13 rfl rfl)
theorem dX5_calls_62 : decode cX5_calls 62 = .ok (.iload_n 2, 1) := dk_28 (dk_at dksX5_calls_2 14 rfl rfl)
theorem dX5_calls_63 : decode cX5_calls 63 = .ok (.iadd, 1) := dk_96 (dk_at dksX5_calls_2 15 rfl rfl)
theorem dX5_calls_64 : decode cX5_calls 64 = .ok (.iaload, 1) := dk_46 (dk_at dksX5_calls_2 16 rfl rfl)
theorem dX5_calls_65 : decode cX5_calls 65 = .ok (.bipush (-9), 2) := dk_16 247 (dk_at dksX5_calls_2 17 rfl rfl)
theorem dX5_calls_67 : decode cX5_calls 67 = .ok (.if_icmp .ne 11, 3) := dk_160 0 11 (dk_at dksX5_calls_2 19 rfl rfl)
theorem dX5_calls_70 : decode cX5_calls 70 = .ok (.aload_n 0, 1) := dk_42 (dk_at dksX5_calls_2 22 rfl rfl)
theorem dX5_calls_71 : decode cX5_calls 71 = .ok (.bipush (-11), 2) := dk_16 245 (dk_at dksX5_calls_3 0 rfl rfl)
theorem dX5_calls_73 : decode cX5_calls 73 = .ok (.putfield 192, 3) := dk_181 0 192 (dk_at dksX5_calls_3 2 rfl rfl)
theorem dX5_calls_76 : decode cX5_calls 76 = .ok (.iconst 0, 1) := dk_3 (dk_at dksX5_calls_3 5 rfl rfl)
theorem dX5_calls_77 : decode cX5_calls 77 = .ok (.ireturn, 1) := dk_172 (dk_at dksX5_calls_3 6 rfl rfl)
theorem dX5_calls_78 : decode cX5_calls 78 = .ok (.iload_n 2, 1) := dk_28 (dk_at dksX5_calls_3 7 rfl rfl)
theorem dX5_calls_79 : decode cX5_calls 79 = .ok (.i2l, 1) := dk_133 (dk_at dksX5_calls_3 8 rfl rfl)
theorem dX5_calls_80 : decode cX5_calls 80 = .ok (.lconst 0, 1) := dk_9 (dk_at dksX5_calls_3 9 rfl rfl)
theorem dX5_calls_81 : decode cX5_calls 81 = .ok (.aload_n 0, 1) := dk_42 (dk_at dksX5_calls_3 10 rfl rfl)
theorem dX5_calls_82 : decode cX5_calls 82 = .ok (.getfield 59, 3) := dk_180 0 59 (dk_at dksX5_calls_3 11 rfl rfl)
theorem dX5_calls_85 : decode cX5_calls 85 = .ok (.iload_n 1, 1) := dk_27 (dk_at dksX5_calls_3 14 rfl rfl)
theorem dX5_calls_86 : decode cX5_calls 86 = .ok (.iaload, 1) := dk_46 (dk_at dksX5_calls_3 15 rfl rfl)
theorem dX5_calls_87 : decode cX5_calls 87 = .ok (.iconst 1, 1) := dk_4 (dk_at dksX5_calls_3 16 rfl rfl)
theorem dX5_calls_88 : decode cX5_calls 88 = .ok (.isub, 1) := dk_100 (dk_at dksX5_calls_3 17 rfl rfl)
theorem dX5_calls_89 : decode cX5_calls 89 = .ok (.i2l, 1) := dk_133 (dk_at dksX5_calls_3 18 rfl rfl)
theorem dX5_calls_90 : decode cX5_calls 90 = .ok (.invokestatic 85, 3) := dk_184 0 85 (dk_at dksX5_calls_3 19 rfl rfl)
theorem dX5_calls_93 : decode cX5_calls 93 = .ok (.ifCond .ne 11, 3) := dk_154 0 11 (dk_at dksX5_calls_4 0 rfl rfl)
theorem dX5_calls_96 : decode cX5_calls 96 = .ok (.aload_n 0, 1) := dk_42 (dk_at dksX5_calls_4 3 rfl rfl)
theorem dX5_calls_97 : decode cX5_calls 97 = .ok (.bipush (-12), 2) := dk_16 244 (dk_at dksX5_calls_4 4 rfl rfl)
theorem dX5_calls_99 : decode cX5_calls 99 = .ok (.putfield 192, 3) := dk_181 0 192 (dk_at dksX5_calls_4 6 rfl rfl)
theorem dX5_calls_102 : decode cX5_calls 102 = .ok (.iconst 0, 1) := dk_3 (dk_at dksX5_calls_4 9 rfl rfl)
theorem dX5_calls_103 : decode cX5_calls 103 = .ok (.ireturn, 1) := dk_172 (dk_at dksX5_calls_4 10 rfl rfl)
theorem dX5_calls_104 : decode cX5_calls 104 = .ok (.iconst 0, 1) := dk_3 (dk_at dksX5_calls_4 11 rfl rfl)
theorem dX5_calls_105 : decode cX5_calls 105 = .ok (.istore_n 3, 1) := dk_62 (dk_at dksX5_calls_4 12 rfl rfl)
theorem dX5_calls_106 : decode cX5_calls 106 = .ok (.iconst 0, 1) := dk_3 (dk_at dksX5_calls_4 13 rfl rfl)
theorem dX5_calls_107 : decode cX5_calls 107 = .ok (.istore 4, 2) := dk_54 4 (dk_at dksX5_calls_4 14 rfl rfl)
theorem dX5_calls_109 : decode cX5_calls 109 = .ok (.iload 4, 2) := dk_21 4 (dk_at dksX5_calls_4 16 rfl rfl)
theorem dX5_calls_111 : decode cX5_calls 111 = .ok (.aload_n 0, 1) := dk_42 (dk_at dksX5_calls_4 18 rfl rfl)
theorem dX5_calls_112 : decode cX5_calls 112 = .ok (.getfield 62, 3) := dk_180 0 62 (dk_at dksX5_calls_4 19 rfl rfl)
theorem dX5_calls_115 : decode cX5_calls 115 = .ok (.iconst 4, 1) := dk_7 (dk_at dksX5_calls_4 22 rfl rfl)
theorem dX5_calls_116 : decode cX5_calls 116 = .ok (.iload_n 1, 1) := dk_27 (dk_at dksX5_calls_4 23 rfl rfl)
theorem dX5_calls_117 : decode cX5_calls 117 = .ok (.imul, 1) := dk_104 (dk_at dksX5_calls_5 0 rfl rfl)
theorem dX5_calls_118 : decode cX5_calls 118 = .ok (.iload_n 2, 1) := dk_28 (dk_at dksX5_calls_5 1 rfl rfl)
theorem dX5_calls_119 : decode cX5_calls 119 = .ok (.iadd, 1) := dk_96 (dk_at dksX5_calls_5 2 rfl rfl)
theorem dX5_calls_120 : decode cX5_calls 120 = .ok (.iaload, 1) := dk_46 (dk_at dksX5_calls_5 3 rfl rfl)
theorem dX5_calls_121 : decode cX5_calls 121 = .ok (.if_icmp .ge 99, 3) := dk_162 0 99 (dk_at dksX5_calls_5 4 rfl rfl)
theorem dX5_calls_124 : decode cX5_calls 124 = .ok (.aload_n 0, 1) := dk_42 (dk_at dksX5_calls_5 7 rfl rfl)
theorem dX5_calls_125 : decode cX5_calls 125 = .ok (.getfield 65, 3) := dk_180 0 65 (dk_at dksX5_calls_5 8 rfl rfl)
theorem dX5_calls_128 : decode cX5_calls 128 = .ok (.bipush 32, 2) := dk_16 32 (dk_at dksX5_calls_5 11 rfl rfl)
theorem dX5_calls_130 : decode cX5_calls 130 = .ok (.iload_n 1, 1) := dk_27 (dk_at dksX5_calls_5 13 rfl rfl)
theorem dX5_calls_131 : decode cX5_calls 131 = .ok (.imul, 1) := dk_104 (dk_at dksX5_calls_5 14 rfl rfl)
theorem dX5_calls_132 : decode cX5_calls 132 = .ok (.bipush 8, 2) := dk_16 8 (dk_at dksX5_calls_5 15 rfl rfl)
theorem dX5_calls_134 : decode cX5_calls 134 = .ok (.iload_n 2, 1) := dk_28 (dk_at dksX5_calls_5 17 rfl rfl)
theorem dX5_calls_135 : decode cX5_calls 135 = .ok (.imul, 1) := dk_104 (dk_at dksX5_calls_5 18 rfl rfl)
theorem dX5_calls_136 : decode cX5_calls 136 = .ok (.iadd, 1) := dk_96 (dk_at dksX5_calls_5 19 rfl rfl)
theorem dX5_calls_137 : decode cX5_calls 137 = .ok (.iload 4, 2) := dk_21 4 (dk_at dksX5_calls_5 20 rfl rfl)
theorem dX5_calls_139 : decode cX5_calls 139 = .ok (.iadd, 1) := dk_96 (dk_at dksX5_calls_5 22 rfl rfl)
theorem dX5_calls_140 : decode cX5_calls 140 = .ok (.laload, 1) := dk_47 (dk_at dksX5_calls_5 23 rfl rfl)
theorem dX5_calls_141 : decode cX5_calls 141 = .ok (.lstore 5, 2) := dk_55 5 (dk_at dksX5_calls_6 0 rfl rfl)
theorem dX5_calls_143 : decode cX5_calls 143 = .ok (.lload 5, 2) := dk_22 5 (dk_at dksX5_calls_6 2 rfl rfl)
theorem dX5_calls_145 : decode cX5_calls 145 = .ok (.lconst 0, 1) := dk_9 (dk_at dksX5_calls_6 4 rfl rfl)
theorem dX5_calls_146 : decode cX5_calls 146 = .ok (.aload_n 0, 1) := dk_42 (dk_at dksX5_calls_6 5 rfl rfl)
theorem dX5_calls_147 : decode cX5_calls 147 = .ok (.getfield 82, 3) := dk_180 0 82 (dk_at dksX5_calls_6 6 rfl rfl)
theorem dX5_calls_150 : decode cX5_calls 150 = .ok (.iconst 1, 1) := dk_4 (dk_at dksX5_calls_6 9 rfl rfl)
theorem dX5_calls_151 : decode cX5_calls 151 = .ok (.isub, 1) := dk_100 (dk_at dksX5_calls_6 10 rfl rfl)
theorem dX5_calls_152 : decode cX5_calls 152 = .ok (.i2l, 1) := dk_133 (dk_at dksX5_calls_6 11 rfl rfl)
theorem dX5_calls_153 : decode cX5_calls 153 = .ok (.invokestatic 85, 3) := dk_184 0 85 (dk_at dksX5_calls_6 12 rfl rfl)
theorem dX5_calls_156 : decode cX5_calls 156 = .ok (.ifCond .ne 10, 3) := dk_154 0 10 (dk_at dksX5_calls_6 15 rfl rfl)
theorem dX5_calls_159 : decode cX5_calls 159 = .ok (.aload_n 0, 1) := dk_42 (dk_at dksX5_calls_6 18 rfl rfl)
theorem dX5_calls_160 : decode cX5_calls 160 = .ok (.iconst (-1), 1) := dk_2 (dk_at dksX5_calls_6 19 rfl rfl)
theorem dX5_calls_161 : decode cX5_calls 161 = .ok (.putfield 192, 3) := dk_181 0 192 (dk_at dksX5_calls_6 20 rfl rfl)
theorem dX5_calls_164 : decode cX5_calls 164 = .ok (.iload_n 3, 1) := dk_29 (dk_at dksX5_calls_6 23 rfl rfl)
theorem dX5_calls_165 : decode cX5_calls 165 = .ok (.ireturn, 1) := dk_172 (dk_at dksX5_calls_7 0 rfl rfl)
theorem dX5_calls_166 : decode cX5_calls 166 = .ok (.aload_n 0, 1) := dk_42 (dk_at dksX5_calls_7 1 rfl rfl)
theorem dX5_calls_167 : decode cX5_calls 167 = .ok (.getfield 96, 3) := dk_180 0 96 (dk_at dksX5_calls_7 2 rfl rfl)
theorem dX5_calls_170 : decode cX5_calls 170 = .ok (.ifCond .eq 12, 3) := dk_153 0 12 (dk_at dksX5_calls_7 5 rfl rfl)
theorem dX5_calls_173 : decode cX5_calls 173 = .ok (.aload_n 0, 1) := dk_42 (dk_at dksX5_calls_7 8 rfl rfl)
theorem dX5_calls_174 : decode cX5_calls 174 = .ok (.getfield 165, 3) := dk_180 0 165 (dk_at dksX5_calls_7 9 rfl rfl)
theorem dX5_calls_177 : decode cX5_calls 177 = .ok (.bipush 12, 2) := dk_16 12 (dk_at dksX5_calls_7 12 rfl rfl)
theorem dX5_calls_179 : decode cX5_calls 179 = .ok (.if_icmp .ne 23, 3) := dk_160 0 23 (dk_at dksX5_calls_7 14 rfl rfl)
theorem dX5_calls_182 : decode cX5_calls 182 = .ok (.aload_n 0, 1) := dk_42 (dk_at dksX5_calls_7 17 rfl rfl)
theorem dX5_calls_183 : decode cX5_calls 183 = .ok (.aload_n 0, 1) := dk_42 (dk_at dksX5_calls_7 18 rfl rfl)
theorem dX5_calls_184 : decode cX5_calls 184 = .ok (.getfield 96, 3) := dk_180 0 96 (dk_at dksX5_calls_7 19 rfl rfl)
theorem dX5_calls_187 : decode cX5_calls 187 = .ok (.ifCond .ne 8, 3) := dk_154 0 8 (dk_at dksX5_calls_8 0 rfl rfl)
theorem dX5_calls_190 : decode cX5_calls 190 = .ok (.bipush (-2), 2) := dk_16 254 (dk_at dksX5_calls_8 3 rfl rfl)
theorem dX5_calls_192 : decode cX5_calls 192 = .ok (.goto 5, 3) := dk_167 0 5 (dk_at dksX5_calls_8 5 rfl rfl)
theorem dX5_calls_195 : decode cX5_calls 195 = .ok (.bipush (-3), 2) := dk_16 253 (dk_at dksX5_calls_8 8 rfl rfl)
theorem dX5_calls_197 : decode cX5_calls 197 = .ok (.putfield 192, 3) := dk_181 0 192 (dk_at dksX5_calls_8 10 rfl rfl)
theorem dX5_calls_200 : decode cX5_calls 200 = .ok (.iload_n 3, 1) := dk_29 (dk_at dksX5_calls_8 13 rfl rfl)
theorem dX5_calls_201 : decode cX5_calls 201 = .ok (.ireturn, 1) := dk_172 (dk_at dksX5_calls_8 14 rfl rfl)
theorem dX5_calls_202 : decode cX5_calls 202 = .ok (.aload_n 0, 1) := dk_42 (dk_at dksX5_calls_8 15 rfl rfl)
theorem dX5_calls_203 : decode cX5_calls 203 = .ok (.lload 5, 2) := dk_22 5 (dk_at dksX5_calls_8 16 rfl rfl)
theorem dX5_calls_205 : decode cX5_calls 205 = .ok (.l2i, 1) := dk_136 (dk_at dksX5_calls_8 18 rfl rfl)
theorem dX5_calls_206 : decode cX5_calls 206 = .ok (.invokevirtual 179, 3) := dk_182 0 179 (dk_at dksX5_calls_8 19 rfl rfl)
theorem dX5_calls_209 : decode cX5_calls 209 = .ok (.istore 7, 2) := dk_54 7 (dk_at dksX5_calls_8 22 rfl rfl)
theorem dX5_calls_211 : decode cX5_calls 211 = .ok (.iinc 3 1, 3) := dk_132 3 1 (dk_at dksX5_calls_9 0 rfl rfl)
theorem dX5_calls_214 : decode cX5_calls 214 = .ok (.iinc 4 1, 3) := dk_132 4 1 (dk_at dksX5_calls_9 3 rfl rfl)
theorem dX5_calls_217 : decode cX5_calls 217 = .ok (.goto (-108), 3) := dk_167 255 148 (dk_at dksX5_calls_9 6 rfl rfl)
theorem dX5_calls_220 : decode cX5_calls 220 = .ok (.iload_n 3, 1) := dk_29 (dk_at dksX5_calls_9 9 rfl rfl)
theorem dX5_calls_221 : decode cX5_calls 221 = .ok (.ireturn, 1) := dk_172 (dk_at dksX5_calls_9 10 rfl rfl)
abbrev cX5_about : ByteArray := prog_13_method_50_code
def yX5_about : MethodName := ⟨RX5, "about", "(I)I"⟩
def dkwX5_about_3 : List UInt8 := [172, 42, 182, 0, 161, 153, 0, 7, 4, 167, 0, 4, 3, 172, 2, 172]
abbrev dktX5_about_3 : List UInt8 := dkwX5_about_3 ++ []
def dkwX5_about_2 : List UInt8 := [42, 180, 0, 82, 172, 42, 180, 0, 90, 172, 42, 180, 0, 96, 172, 42, 180, 0, 165, 172, 42, 180, 0, 138]
abbrev dktX5_about_2 : List UInt8 := dkwX5_about_2 ++ dktX5_about_3
def dkwX5_about_1 : List UInt8 := [170, 0, 0, 0, 0, 76, 0, 0, 0, 0, 0, 0, 0, 5, 0, 0, 0, 38, 0, 0, 0, 43, 0, 0, 0, 48, 0, 0, 0, 53, 0, 0, 0, 58, 0, 0, 0, 63]
abbrev dktX5_about_1 : List UInt8 := dkwX5_about_1 ++ dktX5_about_2
def dkwX5_about_0 : List UInt8 := [42, 3, 181, 0, 78, 27]
abbrev dktX5_about_0 : List UInt8 := dkwX5_about_0 ++ dktX5_about_1
theorem dksX5_about_0 : cX5_about.data.toList.drop 0 = dktX5_about_0 := by decide +kernel
theorem dksX5_about_1 : cX5_about.data.toList.drop 6 = dktX5_about_1 := dk_seg dksX5_about_0 6 rfl rfl
theorem dksX5_about_2 : cX5_about.data.toList.drop 44 = dktX5_about_2 := dk_seg dksX5_about_1 38 rfl rfl
theorem dksX5_about_3 : cX5_about.data.toList.drop 68 = dktX5_about_3 := dk_seg dksX5_about_2 24 rfl rfl
theorem dX5_about_0 : decode cX5_about 0 = .ok (.aload_n 0, 1) := dk_42 (dk_at dksX5_about_0 0 rfl rfl)
theorem dX5_about_1 : decode cX5_about 1 = .ok (.iconst 0, 1) := dk_3 (dk_at dksX5_about_0 1 rfl rfl)
theorem dX5_about_2 : decode cX5_about 2 = .ok (.putfield 78, 3) := dk_181 0 78 (dk_at dksX5_about_0 2 rfl rfl)
theorem dX5_about_5 : decode cX5_about 5 = .ok (.iload_n 1, 1) := dk_27 (dk_at dksX5_about_0 5 rfl rfl)
theorem dX5_about_6 : decode cX5_about 6 = .ok (.tableswitch 76 0 5 #[38, 43, 48, 53, 58, 63], 38) := by decide +kernel
theorem dX5_about_44 : decode cX5_about 44 = .ok (.aload_n 0, 1) := dk_42 (dk_at dksX5_about_2 0 rfl rfl)
theorem dX5_about_45 : decode cX5_about 45 = .ok (.getfield 82, 3) := dk_180 0 82 (dk_at dksX5_about_2 1 rfl rfl)
theorem dX5_about_48 : decode cX5_about 48 = .ok (.ireturn, 1) := dk_172 (dk_at dksX5_about_2 4 rfl rfl)
theorem dX5_about_49 : decode cX5_about 49 = .ok (.aload_n 0, 1) := dk_42 (dk_at dksX5_about_2 5 rfl rfl)
theorem dX5_about_50 : decode cX5_about 50 = .ok (.getfield 90, 3) := dk_180 0 90 (dk_at dksX5_about_2 6 rfl rfl)
theorem dX5_about_53 : decode cX5_about 53 = .ok (.ireturn, 1) := dk_172 (dk_at dksX5_about_2 9 rfl rfl)
theorem dX5_about_54 : decode cX5_about 54 = .ok (.aload_n 0, 1) := dk_42 (dk_at dksX5_about_2 10 rfl rfl)
theorem dX5_about_55 : decode cX5_about 55 = .ok (.getfield 96, 3) := dk_180 0 96 (dk_at dksX5_about_2 11 rfl rfl)
theorem dX5_about_58 : decode cX5_about 58 = .ok (.ireturn, 1) := dk_172 (dk_at dksX5_about_2 14 rfl rfl)
theorem dX5_about_59 : decode cX5_about 59 = .ok (.aload_n 0, 1) := dk_42 (dk_at dksX5_about_2 15 rfl rfl)
theorem dX5_about_60 : decode cX5_about 60 = .ok (.getfield 165, 3) := dk_180 0 165 (dk_at dksX5_about_2 16 rfl rfl)
theorem dX5_about_63 : decode cX5_about 63 = .ok (.ireturn, 1) := dk_172 (dk_at dksX5_about_2 19 rfl rfl)
theorem dX5_about_64 : decode cX5_about 64 = .ok (.aload_n 0, 1) := dk_42 (dk_at dksX5_about_2 20 rfl rfl)
theorem dX5_about_65 : decode cX5_about 65 = .ok (.getfield 138, 3) := dk_180 0 138 (dk_at dksX5_about_2 21 rfl rfl)
theorem dX5_about_68 : decode cX5_about 68 = .ok (.ireturn, 1) := dk_172 (dk_at dksX5_about_3 0 rfl rfl)
theorem dX5_about_69 : decode cX5_about 69 = .ok (.aload_n 0, 1) := dk_42 (dk_at dksX5_about_3 1 rfl rfl)
theorem dX5_about_70 : decode cX5_about 70 = .ok (.invokevirtual 161, 3) := dk_182 0 161 (dk_at dksX5_about_3 2 rfl rfl)
theorem dX5_about_73 : decode cX5_about 73 = .ok (.ifCond .eq 7, 3) := dk_153 0 7 (dk_at dksX5_about_3 5 rfl rfl)
theorem dX5_about_76 : decode cX5_about 76 = .ok (.iconst 1, 1) := dk_4 (dk_at dksX5_about_3 8 rfl rfl)
theorem dX5_about_77 : decode cX5_about 77 = .ok (.goto 4, 3) := dk_167 0 4 (dk_at dksX5_about_3 9 rfl rfl)
theorem dX5_about_80 : decode cX5_about 80 = .ok (.iconst 0, 1) := dk_3 (dk_at dksX5_about_3 12 rfl rfl)
theorem dX5_about_81 : decode cX5_about 81 = .ok (.ireturn, 1) := dk_172 (dk_at dksX5_about_3 13 rfl rfl)
theorem dX5_about_82 : decode cX5_about 82 = .ok (.iconst (-1), 1) := dk_2 (dk_at dksX5_about_3 14 rfl rfl)
theorem dX5_about_83 : decode cX5_about 83 = .ok (.ireturn, 1) := dk_172 (dk_at dksX5_about_3 15 rfl rfl)
abbrev cX5_trace : ByteArray := prog_13_method_51_code
def yX5_trace : MethodName := ⟨RX5, "trace", "()J"⟩
def dkwX5_trace_0 : List UInt8 := [42, 3, 181, 0, 78, 42, 180, 0, 124, 173]
abbrev dktX5_trace_0 : List UInt8 := dkwX5_trace_0 ++ []
theorem dksX5_trace_0 : cX5_trace.data.toList.drop 0 = dktX5_trace_0 := by decide +kernel
theorem dX5_trace_0 : decode cX5_trace 0 = .ok (.aload_n 0, 1) := dk_42 (dk_at dksX5_trace_0 0 rfl rfl)
theorem dX5_trace_1 : decode cX5_trace 1 = .ok (.iconst 0, 1) := dk_3 (dk_at dksX5_trace_0 1 rfl rfl)
theorem dX5_trace_2 : decode cX5_trace 2 = .ok (.putfield 78, 3) := dk_181 0 78 (dk_at dksX5_trace_0 2 rfl rfl)
theorem dX5_trace_5 : decode cX5_trace 5 = .ok (.aload_n 0, 1) := dk_42 (dk_at dksX5_trace_0 5 rfl rfl)
theorem dX5_trace_6 : decode cX5_trace 6 = .ok (.getfield 124, 3) := dk_180 0 124 (dk_at dksX5_trace_0 6 rfl rfl)
theorem dX5_trace_9 : decode cX5_trace 9 = .ok (.lreturn, 1) := dk_173 (dk_at dksX5_trace_0 9 rfl rfl)
abbrev cX5_status : ByteArray := prog_13_method_52_code
def yX5_status : MethodName := ⟨RX5, "status", "()I"⟩
def dkwX5_status_0 : List UInt8 := [42, 3, 181, 0, 78, 42, 180, 0, 192, 172]
abbrev dktX5_status_0 : List UInt8 := dkwX5_status_0 ++ []
theorem dksX5_status_0 : cX5_status.data.toList.drop 0 = dktX5_status_0 := by decide +kernel
theorem dX5_status_0 : decode cX5_status 0 = .ok (.aload_n 0, 1) := dk_42 (dk_at dksX5_status_0 0 rfl rfl)
theorem dX5_status_1 : decode cX5_status 1 = .ok (.iconst 0, 1) := dk_3 (dk_at dksX5_status_0 1 rfl rfl)
theorem dX5_status_2 : decode cX5_status 2 = .ok (.putfield 78, 3) := dk_181 0 78 (dk_at dksX5_status_0 2 rfl rfl)
theorem dX5_status_5 : decode cX5_status 5 = .ok (.aload_n 0, 1) := dk_42 (dk_at dksX5_status_0 5 rfl rfl)
theorem dX5_status_6 : decode cX5_status 6 = .ok (.getfield 192, 3) := dk_180 0 192 (dk_at dksX5_status_0 6 rfl rfl)
theorem dX5_status_9 : decode cX5_status 9 = .ok (.ireturn, 1) := dk_172 (dk_at dksX5_status_0 9 rfl rfl)
theorem q46 : (Jvm.Cond.initialized "LadderCallsModel") ∈ lw_all := lw_g (lw_at lw_m1 6 rfl) rfl
theorem q822 : (Jvm.Cond.instantiable "LadderCallsModel" (32 : Nat)) ∈ lw_all := lw_g (lw_at lw_m4 62 rfl) rfl
theorem q824 : (Jvm.Cond.instanceMethod ({ cls := "LadderCallsModel", name := "<init>", desc := "()V" } : Jvm.MethodName)) ∈ lw_all := lw_g (lw_at lw_m4 64 rfl) rfl
theorem q825 : (Jvm.Cond.code ({ cls := "LadderCallsModel", name := "<init>", desc := "()V" } : Jvm.MethodName) prog_13_method_1_code (1 : Nat) (Option.none : Option Jvm.ClassFile.FieldType)) ∈ lw_all := lw_g (lw_at lw_m4 65 rfl) rfl
theorem q826 : (Jvm.Cond.methodLink "LadderCallsModel" (1 : Nat) ({ cls := "java/lang/Object", name := "<init>", desc := "()V" } : Jvm.MethodName)) ∈ lw_all := lw_g (lw_at lw_m4 66 rfl) rfl
theorem q827 : (Jvm.Cond.fieldLink "LadderCallsModel" (78 : Nat) "LadderCallsModel" "thrown" "I") ∈ lw_all := lw_g (lw_at lw_m4 67 rfl) rfl
theorem q828 : (Jvm.Cond.fieldLink "LadderCallsModel" (192 : Nat) "LadderCallsModel" "status" "I") ∈ lw_all := lw_g (lw_at lw_m4 68 rfl) rfl
theorem q829 : (Jvm.Cond.fieldLink "LadderCallsModel" (124 : Nat) "LadderCallsModel" "trace" "J") ∈ lw_all := lw_g (lw_at lw_m4 69 rfl) rfl
theorem q830 : (Jvm.Cond.fieldLink "LadderCallsModel" (82 : Nat) "LadderCallsModel" "places" "I") ∈ lw_all := lw_g (lw_at lw_m4 70 rfl) rfl
theorem q831 : (Jvm.Cond.fieldLink "LadderCallsModel" (90 : Nat) "LadderCallsModel" "roads" "I") ∈ lw_all := lw_g (lw_at lw_m4 71 rfl) rfl
theorem q832 : (Jvm.Cond.fieldLink "LadderCallsModel" (7 : Nat) "LadderCallsModel" "roadA" "[I") ∈ lw_all := lw_g (lw_at lw_m4 72 rfl) rfl
theorem q833 : (Jvm.Cond.fieldLink "LadderCallsModel" (13 : Nat) "LadderCallsModel" "roadB" "[I") ∈ lw_all := lw_g (lw_at lw_m4 73 rfl) rfl
theorem q834 : (Jvm.Cond.fieldLink "LadderCallsModel" (16 : Nat) "LadderCallsModel" "roadLength" "[I") ∈ lw_all := lw_g (lw_at lw_m4 74 rfl) rfl
theorem q835 : (Jvm.Cond.fieldLink "LadderCallsModel" (19 : Nat) "LadderCallsModel" "far" "[I") ∈ lw_all := lw_g (lw_at lw_m4 75 rfl) rfl
theorem q836 : (Jvm.Cond.fieldLink "LadderCallsModel" (96 : Nat) "LadderCallsModel" "ladders" "I") ∈ lw_all := lw_g (lw_at lw_m4 76 rfl) rfl
theorem q837 : (Jvm.Cond.fieldLink "LadderCallsModel" (117 : Nat) "LadderCallsModel" "beginning" "I") ∈ lw_all := lw_g (lw_at lw_m4 77 rfl) rfl
theorem q838 : (Jvm.Cond.fieldLink "LadderCallsModel" (138 : Nat) "LadderCallsModel" "kind" "I") ∈ lw_all := lw_g (lw_at lw_m4 78 rfl) rfl
theorem q839 : (Jvm.Cond.fieldLink "LadderCallsModel" (22 : Nat) "LadderCallsModel" "at" "[I") ∈ lw_all := lw_g (lw_at lw_m4 79 rfl) rfl
theorem q840 : (Jvm.Cond.fieldLink "LadderCallsModel" (25 : Nat) "LadderCallsModel" "sum" "[I") ∈ lw_all := lw_g (lw_at lw_m4 80 rfl) rfl
theorem q841 : (Jvm.Cond.fieldLink "LadderCallsModel" (168 : Nat) "LadderCallsModel" "latest" "I") ∈ lw_all := lw_g (lw_at lw_m4 81 rfl) rfl
theorem q842 : (Jvm.Cond.fieldLink "LadderCallsModel" (165 : Nat) "LadderCallsModel" "calls" "I") ∈ lw_all := lw_g (lw_at lw_m4 82 rfl) rfl
theorem q843 : (Jvm.Cond.fieldLink "LadderCallsModel" (28 : Nat) "LadderCallsModel" "callPlace" "[I") ∈ lw_all := lw_g (lw_at lw_m4 83 rfl) rfl
theorem q844 : (Jvm.Cond.fieldLink "LadderCallsModel" (31 : Nat) "LadderCallsModel" "callLadder" "[I") ∈ lw_all := lw_g (lw_at lw_m4 84 rfl) rfl
theorem q845 : (Jvm.Cond.fieldLink "LadderCallsModel" (34 : Nat) "LadderCallsModel" "callFar" "[I") ∈ lw_all := lw_g (lw_at lw_m4 85 rfl) rfl
theorem q846 : (Jvm.Cond.fieldLink "LadderCallsModel" (37 : Nat) "LadderCallsModel" "callKind" "[I") ∈ lw_all := lw_g (lw_at lw_m4 86 rfl) rfl
theorem q847 : (Jvm.Cond.fieldLink "LadderCallsModel" (40 : Nat) "LadderCallsModel" "callFrom" "[I") ∈ lw_all := lw_g (lw_at lw_m4 87 rfl) rfl
theorem q848 : (Jvm.Cond.fieldLink "LadderCallsModel" (43 : Nat) "LadderCallsModel" "callLatest" "[I") ∈ lw_all := lw_g (lw_at lw_m4 88 rfl) rfl
theorem q849 : (Jvm.Cond.fieldLink "LadderCallsModel" (46 : Nat) "LadderCallsModel" "least" "[I") ∈ lw_all := lw_g (lw_at lw_m4 89 rfl) rfl
theorem q850 : (Jvm.Cond.fieldLink "LadderCallsModel" (49 : Nat) "LadderCallsModel" "tried" "[I") ∈ lw_all := lw_g (lw_at lw_m4 90 rfl) rfl
theorem q851 : (Jvm.Cond.fieldLink "LadderCallsModel" (52 : Nat) "LadderCallsModel" "hasBook" "[Z") ∈ lw_all := lw_g (lw_at lw_m4 91 rfl) rfl
theorem q852 : (Jvm.Cond.fieldLink "LadderCallsModel" (56 : Nat) "LadderCallsModel" "sort" "[I") ∈ lw_all := lw_g (lw_at lw_m4 92 rfl) rfl
theorem q853 : (Jvm.Cond.fieldLink "LadderCallsModel" (59 : Nat) "LadderCallsModel" "bookRows" "[I") ∈ lw_all := lw_g (lw_at lw_m4 93 rfl) rfl
theorem q854 : (Jvm.Cond.fieldLink "LadderCallsModel" (62 : Nat) "LadderCallsModel" "rowSize" "[I") ∈ lw_all := lw_g (lw_at lw_m4 94 rfl) rfl
theorem q855 : (Jvm.Cond.fieldLink "LadderCallsModel" (65 : Nat) "LadderCallsModel" "cells" "[J") ∈ lw_all := lw_g (lw_at lw_m4 95 rfl) rfl
theorem q856 : (Jvm.Cond.fieldLink "LadderCallsModel" (69 : Nat) "LadderCallsModel" "rest" "[I") ∈ lw_all := lw_g (lw_at lw_m4 96 rfl) rfl
theorem q857 : (Jvm.Cond.fieldLink "LadderCallsModel" (72 : Nat) "LadderCallsModel" "where" "[I") ∈ lw_all := lw_g (lw_at lw_m4 97 rfl) rfl
theorem q858 : (Jvm.Cond.fieldLink "LadderCallsModel" (75 : Nat) "LadderCallsModel" "ways" "[I") ∈ lw_all := lw_g (lw_at lw_m4 98 rfl) rfl
theorem q859 : (Jvm.Cond.lays "LadderCallsModel" "LadderCallsModel" "thrown" "I") ∈ lw_all := lw_g (lw_at lw_m4 99 rfl) rfl
theorem q860 : (Jvm.Cond.soleField "LadderCallsModel" "thrown") ∈ lw_all := lw_g (lw_at lw_m4 100 rfl) rfl
theorem q861 : (Jvm.Cond.lays "LadderCallsModel" "LadderCallsModel" "status" "I") ∈ lw_all := lw_g (lw_at lw_m4 101 rfl) rfl
theorem q862 : (Jvm.Cond.soleField "LadderCallsModel" "status") ∈ lw_all := lw_g (lw_at lw_m4 102 rfl) rfl
theorem q863 : (Jvm.Cond.lays "LadderCallsModel" "LadderCallsModel" "trace" "J") ∈ lw_all := lw_g (lw_at lw_m4 103 rfl) rfl
theorem q864 : (Jvm.Cond.soleField "LadderCallsModel" "trace") ∈ lw_all := lw_g (lw_at lw_m4 104 rfl) rfl
theorem q865 : (Jvm.Cond.lays "LadderCallsModel" "LadderCallsModel" "places" "I") ∈ lw_all := lw_g (lw_at lw_m4 105 rfl) rfl
theorem q866 : (Jvm.Cond.soleField "LadderCallsModel" "places") ∈ lw_all := lw_g (lw_at lw_m4 106 rfl) rfl
theorem q867 : (Jvm.Cond.lays "LadderCallsModel" "LadderCallsModel" "roads" "I") ∈ lw_all := lw_g (lw_at lw_m4 107 rfl) rfl
theorem q868 : (Jvm.Cond.soleField "LadderCallsModel" "roads") ∈ lw_all := lw_g (lw_at lw_m4 108 rfl) rfl
theorem q869 : (Jvm.Cond.laysFinal "LadderCallsModel" "LadderCallsModel" "roadA" "[I") ∈ lw_all := lw_g (lw_at lw_m4 109 rfl) rfl
theorem q870 : (Jvm.Cond.soleField "LadderCallsModel" "roadA") ∈ lw_all := lw_g (lw_at lw_m4 110 rfl) rfl
theorem q871 : (Jvm.Cond.laysFinal "LadderCallsModel" "LadderCallsModel" "roadB" "[I") ∈ lw_all := lw_g (lw_at lw_m4 111 rfl) rfl
theorem q872 : (Jvm.Cond.soleField "LadderCallsModel" "roadB") ∈ lw_all := lw_g (lw_at lw_m4 112 rfl) rfl
theorem q873 : (Jvm.Cond.laysFinal "LadderCallsModel" "LadderCallsModel" "roadLength" "[I") ∈ lw_all := lw_g (lw_at lw_m4 113 rfl) rfl
theorem q874 : (Jvm.Cond.soleField "LadderCallsModel" "roadLength") ∈ lw_all := lw_g (lw_at lw_m4 114 rfl) rfl
theorem q875 : (Jvm.Cond.laysFinal "LadderCallsModel" "LadderCallsModel" "far" "[I") ∈ lw_all := lw_g (lw_at lw_m4 115 rfl) rfl
theorem q876 : (Jvm.Cond.soleField "LadderCallsModel" "far") ∈ lw_all := lw_g (lw_at lw_m4 116 rfl) rfl
theorem q877 : (Jvm.Cond.lays "LadderCallsModel" "LadderCallsModel" "ladders" "I") ∈ lw_all := lw_g (lw_at lw_m4 117 rfl) rfl
theorem q878 : (Jvm.Cond.soleField "LadderCallsModel" "ladders") ∈ lw_all := lw_g (lw_at lw_m4 118 rfl) rfl
theorem q879 : (Jvm.Cond.lays "LadderCallsModel" "LadderCallsModel" "beginning" "I") ∈ lw_all := lw_g (lw_at lw_m4 119 rfl) rfl
theorem q880 : (Jvm.Cond.soleField "LadderCallsModel" "beginning") ∈ lw_all := lw_g (lw_at lw_m4 120 rfl) rfl
theorem q881 : (Jvm.Cond.lays "LadderCallsModel" "LadderCallsModel" "kind" "I") ∈ lw_all := lw_g (lw_at lw_m4 121 rfl) rfl
theorem q882 : (Jvm.Cond.soleField "LadderCallsModel" "kind") ∈ lw_all := lw_g (lw_at lw_m4 122 rfl) rfl
theorem q883 : (Jvm.Cond.laysFinal "LadderCallsModel" "LadderCallsModel" "at" "[I") ∈ lw_all := lw_g (lw_at lw_m4 123 rfl) rfl
theorem q884 : (Jvm.Cond.soleField "LadderCallsModel" "at") ∈ lw_all := lw_g (lw_at lw_m4 124 rfl) rfl
theorem q885 : (Jvm.Cond.laysFinal "LadderCallsModel" "LadderCallsModel" "sum" "[I") ∈ lw_all := lw_g (lw_at lw_m4 125 rfl) rfl
theorem q886 : (Jvm.Cond.soleField "LadderCallsModel" "sum") ∈ lw_all := lw_g (lw_at lw_m4 126 rfl) rfl
theorem q887 : (Jvm.Cond.lays "LadderCallsModel" "LadderCallsModel" "latest" "I") ∈ lw_all := lw_g (lw_at lw_m4 127 rfl) rfl
theorem q888 : (Jvm.Cond.soleField "LadderCallsModel" "latest") ∈ lw_all := lw_g (lw_at lw_m4 128 rfl) rfl
theorem q889 : (Jvm.Cond.lays "LadderCallsModel" "LadderCallsModel" "calls" "I") ∈ lw_all := lw_g (lw_at lw_m4 129 rfl) rfl
theorem q890 : (Jvm.Cond.soleField "LadderCallsModel" "calls") ∈ lw_all := lw_g (lw_at lw_m4 130 rfl) rfl
theorem q891 : (Jvm.Cond.laysFinal "LadderCallsModel" "LadderCallsModel" "callPlace" "[I") ∈ lw_all := lw_g (lw_at lw_m4 131 rfl) rfl
theorem q892 : (Jvm.Cond.soleField "LadderCallsModel" "callPlace") ∈ lw_all := lw_g (lw_at lw_m4 132 rfl) rfl
theorem q893 : (Jvm.Cond.laysFinal "LadderCallsModel" "LadderCallsModel" "callLadder" "[I") ∈ lw_all := lw_g (lw_at lw_m4 133 rfl) rfl
theorem q894 : (Jvm.Cond.soleField "LadderCallsModel" "callLadder") ∈ lw_all := lw_g (lw_at lw_m4 134 rfl) rfl
theorem q895 : (Jvm.Cond.laysFinal "LadderCallsModel" "LadderCallsModel" "callFar" "[I") ∈ lw_all := lw_g (lw_at lw_m4 135 rfl) rfl
theorem q896 : (Jvm.Cond.soleField "LadderCallsModel" "callFar") ∈ lw_all := lw_g (lw_at lw_m4 136 rfl) rfl
theorem q897 : (Jvm.Cond.laysFinal "LadderCallsModel" "LadderCallsModel" "callKind" "[I") ∈ lw_all := lw_g (lw_at lw_m4 137 rfl) rfl
theorem q898 : (Jvm.Cond.soleField "LadderCallsModel" "callKind") ∈ lw_all := lw_g (lw_at lw_m4 138 rfl) rfl
theorem q899 : (Jvm.Cond.laysFinal "LadderCallsModel" "LadderCallsModel" "callFrom" "[I") ∈ lw_all := lw_g (lw_at lw_m4 139 rfl) rfl
theorem q900 : (Jvm.Cond.soleField "LadderCallsModel" "callFrom") ∈ lw_all := lw_g (lw_at lw_m4 140 rfl) rfl
theorem q901 : (Jvm.Cond.laysFinal "LadderCallsModel" "LadderCallsModel" "callLatest" "[I") ∈ lw_all := lw_g (lw_at lw_m4 141 rfl) rfl
theorem q902 : (Jvm.Cond.soleField "LadderCallsModel" "callLatest") ∈ lw_all := lw_g (lw_at lw_m4 142 rfl) rfl
theorem q903 : (Jvm.Cond.laysFinal "LadderCallsModel" "LadderCallsModel" "least" "[I") ∈ lw_all := lw_g (lw_at lw_m4 143 rfl) rfl
theorem q904 : (Jvm.Cond.soleField "LadderCallsModel" "least") ∈ lw_all := lw_g (lw_at lw_m4 144 rfl) rfl
theorem q905 : (Jvm.Cond.laysFinal "LadderCallsModel" "LadderCallsModel" "tried" "[I") ∈ lw_all := lw_g (lw_at lw_m4 145 rfl) rfl
theorem q906 : (Jvm.Cond.soleField "LadderCallsModel" "tried") ∈ lw_all := lw_g (lw_at lw_m4 146 rfl) rfl
theorem q907 : (Jvm.Cond.laysFinal "LadderCallsModel" "LadderCallsModel" "hasBook" "[Z") ∈ lw_all := lw_g (lw_at lw_m4 147 rfl) rfl
theorem q908 : (Jvm.Cond.soleField "LadderCallsModel" "hasBook") ∈ lw_all := lw_g (lw_at lw_m4 148 rfl) rfl
theorem q909 : (Jvm.Cond.laysFinal "LadderCallsModel" "LadderCallsModel" "sort" "[I") ∈ lw_all := lw_g (lw_at lw_m4 149 rfl) rfl
theorem q910 : (Jvm.Cond.soleField "LadderCallsModel" "sort") ∈ lw_all := lw_g (lw_at lw_m4 150 rfl) rfl
theorem q911 : (Jvm.Cond.laysFinal "LadderCallsModel" "LadderCallsModel" "bookRows" "[I") ∈ lw_all := lw_g (lw_at lw_m4 151 rfl) rfl
theorem q912 : (Jvm.Cond.soleField "LadderCallsModel" "bookRows") ∈ lw_all := lw_g (lw_at lw_m4 152 rfl) rfl
theorem q913 : (Jvm.Cond.laysFinal "LadderCallsModel" "LadderCallsModel" "rowSize" "[I") ∈ lw_all := lw_g (lw_at lw_m4 153 rfl) rfl
theorem q914 : (Jvm.Cond.soleField "LadderCallsModel" "rowSize") ∈ lw_all := lw_g (lw_at lw_m4 154 rfl) rfl
theorem q915 : (Jvm.Cond.laysFinal "LadderCallsModel" "LadderCallsModel" "cells" "[J") ∈ lw_all := lw_g (lw_at lw_m4 155 rfl) rfl
theorem q916 : (Jvm.Cond.soleField "LadderCallsModel" "cells") ∈ lw_all := lw_g (lw_at lw_m4 156 rfl) rfl
theorem q917 : (Jvm.Cond.laysFinal "LadderCallsModel" "LadderCallsModel" "rest" "[I") ∈ lw_all := lw_g (lw_at lw_m4 157 rfl) rfl
theorem q918 : (Jvm.Cond.soleField "LadderCallsModel" "rest") ∈ lw_all := lw_g (lw_at lw_m4 158 rfl) rfl
theorem q919 : (Jvm.Cond.laysFinal "LadderCallsModel" "LadderCallsModel" "where" "[I") ∈ lw_all := lw_g (lw_at lw_m4 159 rfl) rfl
theorem q920 : (Jvm.Cond.soleField "LadderCallsModel" "where") ∈ lw_all := lw_g (lw_at lw_m4 160 rfl) rfl
theorem q921 : (Jvm.Cond.laysFinal "LadderCallsModel" "LadderCallsModel" "ways" "[I") ∈ lw_all := lw_g (lw_at lw_m4 161 rfl) rfl
theorem q922 : (Jvm.Cond.soleField "LadderCallsModel" "ways") ∈ lw_all := lw_g (lw_at lw_m4 162 rfl) rfl
theorem q923 : (Jvm.Cond.superclass "LadderCallsModel" "java/lang/Object") ∈ lw_all := lw_g (lw_at lw_m4 163 rfl) rfl
theorem q926 : (Jvm.Cond.instanceMethod ({ cls := "LadderCallsModel", name := "place", desc := "()I" } : Jvm.MethodName)) ∈ lw_all := lw_g (lw_at lw_m4 166 rfl) rfl
theorem q927 : (Jvm.Cond.selects "LadderCallsModel" ({ cls := "LadderCallsModel", name := "place", desc := "()I" } : Jvm.MethodName) ({ cls := "LadderCallsModel", name := "place", desc := "()I" } : Jvm.MethodName)) ∈ lw_all := lw_g (lw_at lw_m4 167 rfl) rfl
theorem q928 : (Jvm.Cond.code ({ cls := "LadderCallsModel", name := "place", desc := "()I" } : Jvm.MethodName) prog_13_method_7_code (1 : Nat) (Option.some Jvm.ClassFile.FieldType.int)) ∈ lw_all := lw_g (lw_at lw_m4 168 rfl) rfl
theorem q930 : (Jvm.Cond.instanceMethod ({ cls := "LadderCallsModel", name := "road", desc := "(III)I" } : Jvm.MethodName)) ∈ lw_all := lw_g (lw_at lw_m4 170 rfl) rfl
theorem q931 : (Jvm.Cond.selects "LadderCallsModel" ({ cls := "LadderCallsModel", name := "road", desc := "(III)I" } : Jvm.MethodName) ({ cls := "LadderCallsModel", name := "road", desc := "(III)I" } : Jvm.MethodName)) ∈ lw_all := lw_g (lw_at lw_m4 171 rfl) rfl
theorem q932 : (Jvm.Cond.code ({ cls := "LadderCallsModel", name := "road", desc := "(III)I" } : Jvm.MethodName) prog_13_method_9_code (4 : Nat) (Option.some Jvm.ClassFile.FieldType.int)) ∈ lw_all := lw_g (lw_at lw_m4 172 rfl) rfl
theorem q933 : (Jvm.Cond.methodLink "LadderCallsModel" (101 : Nat) ({ cls := "LadderCallsModel", name := "addRoad", desc := "(JJJ)I" } : Jvm.MethodName)) ∈ lw_all := lw_g (lw_at lw_m4 173 rfl) rfl
theorem q934 : (Jvm.Cond.privateMethod ({ cls := "LadderCallsModel", name := "addRoad", desc := "(JJJ)I" } : Jvm.MethodName)) ∈ lw_tbl := lw_at lw_m4 174 rfl
theorem q935 : (Jvm.Cond.instanceMethod ({ cls := "LadderCallsModel", name := "addRoad", desc := "(JJJ)I" } : Jvm.MethodName)) ∈ lw_all := lw_g (lw_at lw_m4 175 rfl) rfl
theorem q936 : (Jvm.Cond.code ({ cls := "LadderCallsModel", name := "addRoad", desc := "(JJJ)I" } : Jvm.MethodName) prog_13_method_8_code (7 : Nat) (Option.some Jvm.ClassFile.FieldType.int)) ∈ lw_all := lw_g (lw_at lw_m4 176 rfl) rfl
theorem q937 : (Jvm.Cond.methodLink "LadderCallsModel" (85 : Nat) ({ cls := "LadderCallsModel", name := "in", desc := "(JJJ)Z" } : Jvm.MethodName)) ∈ lw_all := lw_g (lw_at lw_m4 177 rfl) rfl
theorem q938 : (Jvm.Cond.static ({ cls := "LadderCallsModel", name := "in", desc := "(JJJ)Z" } : Jvm.MethodName)) ∈ lw_all := lw_g (lw_at lw_m4 178 rfl) rfl
theorem q939 : (Jvm.Cond.code ({ cls := "LadderCallsModel", name := "in", desc := "(JJJ)Z" } : Jvm.MethodName) prog_13_method_3_code (6 : Nat) (Option.some Jvm.ClassFile.FieldType.boolean)) ∈ lw_all := lw_g (lw_at lw_m4 179 rfl) rfl
theorem q940 : (Jvm.Cond.constantLong "LadderCallsModel" (99 : Nat) (100 : Int64)) ∈ lw_all := lw_g (lw_at lw_m4 180 rfl) rfl
theorem q942 : (Jvm.Cond.instanceMethod ({ cls := "LadderCallsModel", name := "apart", desc := "(II)I" } : Jvm.MethodName)) ∈ lw_all := lw_g (lw_at lw_m4 182 rfl) rfl
theorem q943 : (Jvm.Cond.selects "LadderCallsModel" ({ cls := "LadderCallsModel", name := "apart", desc := "(II)I" } : Jvm.MethodName) ({ cls := "LadderCallsModel", name := "apart", desc := "(II)I" } : Jvm.MethodName)) ∈ lw_all := lw_g (lw_at lw_m4 183 rfl) rfl
theorem q944 : (Jvm.Cond.code ({ cls := "LadderCallsModel", name := "apart", desc := "(II)I" } : Jvm.MethodName) prog_13_method_10_code (3 : Nat) (Option.some Jvm.ClassFile.FieldType.int)) ∈ lw_all := lw_g (lw_at lw_m4 184 rfl) rfl
theorem q945 : (Jvm.Cond.methodLink "LadderCallsModel" (105 : Nat) ({ cls := "LadderCallsModel", name := "isPlace", desc := "(I)Z" } : Jvm.MethodName)) ∈ lw_all := lw_g (lw_at lw_m4 185 rfl) rfl
theorem q946 : (Jvm.Cond.privateMethod ({ cls := "LadderCallsModel", name := "isPlace", desc := "(I)Z" } : Jvm.MethodName)) ∈ lw_tbl := lw_at lw_m4 186 rfl
theorem q947 : (Jvm.Cond.instanceMethod ({ cls := "LadderCallsModel", name := "isPlace", desc := "(I)Z" } : Jvm.MethodName)) ∈ lw_all := lw_g (lw_at lw_m4 187 rfl) rfl
theorem q948 : (Jvm.Cond.code ({ cls := "LadderCallsModel", name := "isPlace", desc := "(I)Z" } : Jvm.MethodName) prog_13_method_4_code (2 : Nat) (Option.some Jvm.ClassFile.FieldType.boolean)) ∈ lw_all := lw_g (lw_at lw_m4 188 rfl) rfl
theorem q949 : (Jvm.Cond.methodLink "LadderCallsModel" (93 : Nat) ({ cls := "LadderCallsModel", name := "measures", desc := "()V" } : Jvm.MethodName)) ∈ lw_all := lw_g (lw_at lw_m4 189 rfl) rfl
theorem q950 : (Jvm.Cond.privateMethod ({ cls := "LadderCallsModel", name := "measures", desc := "()V" } : Jvm.MethodName)) ∈ lw_tbl := lw_at lw_m4 190 rfl
theorem q951 : (Jvm.Cond.instanceMethod ({ cls := "LadderCallsModel", name := "measures", desc := "()V" } : Jvm.MethodName)) ∈ lw_all := lw_g (lw_at lw_m4 191 rfl) rfl
theorem q952 : (Jvm.Cond.code ({ cls := "LadderCallsModel", name := "measures", desc := "()V" } : Jvm.MethodName) prog_13_method_5_code (5 : Nat) (Option.none : Option Jvm.ClassFile.FieldType)) ∈ lw_all := lw_g (lw_at lw_m4 192 rfl) rfl
theorem q953 : (Jvm.Cond.constant "LadderCallsModel" (89 : Nat) (100000000 : Int32)) ∈ lw_all := lw_g (lw_at lw_m4 193 rfl) rfl
theorem q955 : (Jvm.Cond.instanceMethod ({ cls := "LadderCallsModel", name := "way", desc := "(II)I" } : Jvm.MethodName)) ∈ lw_all := lw_g (lw_at lw_m4 195 rfl) rfl
theorem q956 : (Jvm.Cond.selects "LadderCallsModel" ({ cls := "LadderCallsModel", name := "way", desc := "(II)I" } : Jvm.MethodName) ({ cls := "LadderCallsModel", name := "way", desc := "(II)I" } : Jvm.MethodName)) ∈ lw_all := lw_g (lw_at lw_m4 196 rfl) rfl
theorem q957 : (Jvm.Cond.code ({ cls := "LadderCallsModel", name := "way", desc := "(II)I" } : Jvm.MethodName) prog_13_method_11_code (9 : Nat) (Option.some Jvm.ClassFile.FieldType.int)) ∈ lw_all := lw_g (lw_at lw_m4 197 rfl) rfl
theorem q959 : (Jvm.Cond.instanceMethod ({ cls := "LadderCallsModel", name := "begin", desc := "(II)I" } : Jvm.MethodName)) ∈ lw_all := lw_g (lw_at lw_m4 199 rfl) rfl
theorem q960 : (Jvm.Cond.selects "LadderCallsModel" ({ cls := "LadderCallsModel", name := "begin", desc := "(II)I" } : Jvm.MethodName) ({ cls := "LadderCallsModel", name := "begin", desc := "(II)I" } : Jvm.MethodName)) ∈ lw_all := lw_g (lw_at lw_m4 200 rfl) rfl
theorem q961 : (Jvm.Cond.code ({ cls := "LadderCallsModel", name := "begin", desc := "(II)I" } : Jvm.MethodName) prog_13_method_24_code (4 : Nat) (Option.some Jvm.ClassFile.FieldType.int)) ∈ lw_all := lw_g (lw_at lw_m4 201 rfl) rfl
theorem q962 : (Jvm.Cond.constantLong "LadderCallsModel" (155 : Nat) (3 : Int64)) ∈ lw_all := lw_g (lw_at lw_m4 202 rfl) rfl
theorem q963 : (Jvm.Cond.methodLink "LadderCallsModel" (157 : Nat) ({ cls := "LadderCallsModel", name := "isStand", desc := "(II)Z" } : Jvm.MethodName)) ∈ lw_all := lw_g (lw_at lw_m4 203 rfl) rfl
theorem q964 : (Jvm.Cond.privateMethod ({ cls := "LadderCallsModel", name := "isStand", desc := "(II)Z" } : Jvm.MethodName)) ∈ lw_tbl := lw_at lw_m4 204 rfl
theorem q965 : (Jvm.Cond.instanceMethod ({ cls := "LadderCallsModel", name := "isStand", desc := "(II)Z" } : Jvm.MethodName)) ∈ lw_all := lw_g (lw_at lw_m4 205 rfl) rfl
theorem q966 : (Jvm.Cond.code ({ cls := "LadderCallsModel", name := "isStand", desc := "(II)Z" } : Jvm.MethodName) prog_13_method_12_code (5 : Nat) (Option.some Jvm.ClassFile.FieldType.boolean)) ∈ lw_all := lw_g (lw_at lw_m4 206 rfl) rfl
theorem q967 : (Jvm.Cond.methodLink "LadderCallsModel" (161 : Nat) ({ cls := "LadderCallsModel", name := "isTorn", desc := "()Z" } : Jvm.MethodName)) ∈ lw_all := lw_g (lw_at lw_m4 207 rfl) rfl
theorem q968 : (Jvm.Cond.privateMethod ({ cls := "LadderCallsModel", name := "isTorn", desc := "()Z" } : Jvm.MethodName)) ∈ lw_tbl := lw_at lw_m4 208 rfl
theorem q969 : (Jvm.Cond.instanceMethod ({ cls := "LadderCallsModel", name := "isTorn", desc := "()Z" } : Jvm.MethodName)) ∈ lw_all := lw_g (lw_at lw_m4 209 rfl) rfl
theorem q970 : (Jvm.Cond.code ({ cls := "LadderCallsModel", name := "isTorn", desc := "()Z" } : Jvm.MethodName) prog_13_method_6_code (4 : Nat) (Option.some Jvm.ClassFile.FieldType.boolean)) ∈ lw_all := lw_g (lw_at lw_m4 210 rfl) rfl
theorem q971 : (Jvm.Cond.methodLink "LadderCallsModel" (171 : Nat) ({ cls := "LadderCallsModel", name := "starts", desc := "([I)V" } : Jvm.MethodName)) ∈ lw_all := lw_g (lw_at lw_m4 211 rfl) rfl
theorem q972 : (Jvm.Cond.privateMethod ({ cls := "LadderCallsModel", name := "starts", desc := "([I)V" } : Jvm.MethodName)) ∈ lw_tbl := lw_at lw_m4 212 rfl
theorem q973 : (Jvm.Cond.instanceMethod ({ cls := "LadderCallsModel", name := "starts", desc := "([I)V" } : Jvm.MethodName)) ∈ lw_all := lw_g (lw_at lw_m4 213 rfl) rfl
theorem q974 : (Jvm.Cond.code ({ cls := "LadderCallsModel", name := "starts", desc := "([I)V" } : Jvm.MethodName) prog_13_method_17_code (3 : Nat) (Option.none : Option Jvm.ClassFile.FieldType)) ∈ lw_all := lw_g (lw_at lw_m4 214 rfl) rfl
theorem q976 : (Jvm.Cond.instanceMethod ({ cls := "LadderCallsModel", name := "end", desc := "()I" } : Jvm.MethodName)) ∈ lw_all := lw_g (lw_at lw_m4 216 rfl) rfl
theorem q977 : (Jvm.Cond.selects "LadderCallsModel" ({ cls := "LadderCallsModel", name := "end", desc := "()I" } : Jvm.MethodName) ({ cls := "LadderCallsModel", name := "end", desc := "()I" } : Jvm.MethodName)) ∈ lw_all := lw_g (lw_at lw_m4 217 rfl) rfl
theorem q978 : (Jvm.Cond.code ({ cls := "LadderCallsModel", name := "end", desc := "()I" } : Jvm.MethodName) prog_13_method_25_code (2 : Nat) (Option.some Jvm.ClassFile.FieldType.int)) ∈ lw_all := lw_g (lw_at lw_m4 218 rfl) rfl
theorem q980 : (Jvm.Cond.instanceMethod ({ cls := "LadderCallsModel", name := "rule", desc := "(I)I" } : Jvm.MethodName)) ∈ lw_all := lw_g (lw_at lw_m4 220 rfl) rfl
theorem q981 : (Jvm.Cond.selects "LadderCallsModel" ({ cls := "LadderCallsModel", name := "rule", desc := "(I)I" } : Jvm.MethodName) ({ cls := "LadderCallsModel", name := "rule", desc := "(I)I" } : Jvm.MethodName)) ∈ lw_all := lw_g (lw_at lw_m4 221 rfl) rfl
theorem q982 : (Jvm.Cond.code ({ cls := "LadderCallsModel", name := "rule", desc := "(I)I" } : Jvm.MethodName) prog_13_method_26_code (3 : Nat) (Option.some Jvm.ClassFile.FieldType.int)) ∈ lw_all := lw_g (lw_at lw_m4 222 rfl) rfl
theorem q984 : (Jvm.Cond.instanceMethod ({ cls := "LadderCallsModel", name := "call", desc := "(I)I" } : Jvm.MethodName)) ∈ lw_all := lw_g (lw_at lw_m4 224 rfl) rfl
theorem q985 : (Jvm.Cond.selects "LadderCallsModel" ({ cls := "LadderCallsModel", name := "call", desc := "(I)I" } : Jvm.MethodName) ({ cls := "LadderCallsModel", name := "call", desc := "(I)I" } : Jvm.MethodName)) ∈ lw_all := lw_g (lw_at lw_m4 225 rfl) rfl
theorem q986 : (Jvm.Cond.code ({ cls := "LadderCallsModel", name := "call", desc := "(I)I" } : Jvm.MethodName) prog_13_method_28_code (2 : Nat) (Option.some Jvm.ClassFile.FieldType.int)) ∈ lw_all := lw_g (lw_at lw_m4 226 rfl) rfl
theorem q987 : (Jvm.Cond.methodLink "LadderCallsModel" (179 : Nat) ({ cls := "LadderCallsModel", name := "comes", desc := "(I)I" } : Jvm.MethodName)) ∈ lw_all := lw_g (lw_at lw_m4 227 rfl) rfl
theorem q988 : (Jvm.Cond.privateMethod ({ cls := "LadderCallsModel", name := "comes", desc := "(I)I" } : Jvm.MethodName)) ∈ lw_tbl := lw_at lw_m4 228 rfl
theorem q989 : (Jvm.Cond.instanceMethod ({ cls := "LadderCallsModel", name := "comes", desc := "(I)I" } : Jvm.MethodName)) ∈ lw_all := lw_g (lw_at lw_m4 229 rfl) rfl
theorem q990 : (Jvm.Cond.code ({ cls := "LadderCallsModel", name := "comes", desc := "(I)I" } : Jvm.MethodName) prog_13_method_27_code (3 : Nat) (Option.some Jvm.ClassFile.FieldType.int)) ∈ lw_all := lw_g (lw_at lw_m4 230 rfl) rfl
theorem q991 : (Jvm.Cond.methodLink "LadderCallsModel" (175 : Nat) ({ cls := "LadderCallsModel", name := "chosen", desc := "([I[II[III)I" } : Jvm.MethodName)) ∈ lw_all := lw_g (lw_at lw_m4 231 rfl) rfl
theorem q992 : (Jvm.Cond.privateMethod ({ cls := "LadderCallsModel", name := "chosen", desc := "([I[II[III)I" } : Jvm.MethodName)) ∈ lw_tbl := lw_at lw_m4 232 rfl
theorem q993 : (Jvm.Cond.instanceMethod ({ cls := "LadderCallsModel", name := "chosen", desc := "([I[II[III)I" } : Jvm.MethodName)) ∈ lw_all := lw_g (lw_at lw_m4 233 rfl) rfl
theorem q994 : (Jvm.Cond.code ({ cls := "LadderCallsModel", name := "chosen", desc := "([I[II[III)I" } : Jvm.MethodName) prog_13_method_23_code (13 : Nat) (Option.some Jvm.ClassFile.FieldType.int)) ∈ lw_all := lw_g (lw_at lw_m4 234 rfl) rfl
theorem q995 : (Jvm.Cond.methodLink "LadderCallsModel" (130 : Nat) ({ cls := "LadderCallsModel", name := "isThere", desc := "([II)Z" } : Jvm.MethodName)) ∈ lw_all := lw_g (lw_at lw_m4 235 rfl) rfl
theorem q996 : (Jvm.Cond.privateMethod ({ cls := "LadderCallsModel", name := "isThere", desc := "([II)Z" } : Jvm.MethodName)) ∈ lw_tbl := lw_at lw_m4 236 rfl
theorem q997 : (Jvm.Cond.instanceMethod ({ cls := "LadderCallsModel", name := "isThere", desc := "([II)Z" } : Jvm.MethodName)) ∈ lw_all := lw_g (lw_at lw_m4 237 rfl) rfl
theorem q998 : (Jvm.Cond.code ({ cls := "LadderCallsModel", name := "isThere", desc := "([II)Z" } : Jvm.MethodName) prog_13_method_21_code (5 : Nat) (Option.some Jvm.ClassFile.FieldType.boolean)) ∈ lw_all := lw_g (lw_at lw_m4 238 rfl) rfl
theorem q999 : (Jvm.Cond.methodLink "LadderCallsModel" (134 : Nat) ({ cls := "LadderCallsModel", name := "nearest", desc := "([II)I" } : Jvm.MethodName)) ∈ lw_all := lw_g (lw_at lw_m4 239 rfl) rfl
theorem q1000 : (Jvm.Cond.privateMethod ({ cls := "LadderCallsModel", name := "nearest", desc := "([II)I" } : Jvm.MethodName)) ∈ lw_tbl := lw_at lw_m5 0 rfl
theorem q1001 : (Jvm.Cond.instanceMethod ({ cls := "LadderCallsModel", name := "nearest", desc := "([II)I" } : Jvm.MethodName)) ∈ lw_all := lw_g (lw_at lw_m5 1 rfl) rfl
theorem q1002 : (Jvm.Cond.code ({ cls := "LadderCallsModel", name := "nearest", desc := "([II)I" } : Jvm.MethodName) prog_13_method_20_code (5 : Nat) (Option.some Jvm.ClassFile.FieldType.int)) ∈ lw_all := lw_g (lw_at lw_m5 2 rfl) rfl
theorem q1003 : (Jvm.Cond.methodLink "LadderCallsModel" (141 : Nat) ({ cls := "LadderCallsModel", name := "evenOf", desc := "([I[II)I" } : Jvm.MethodName)) ∈ lw_all := lw_g (lw_at lw_m5 3 rfl) rfl
theorem q1004 : (Jvm.Cond.privateMethod ({ cls := "LadderCallsModel", name := "evenOf", desc := "([I[II)I" } : Jvm.MethodName)) ∈ lw_tbl := lw_at lw_m5 4 rfl
theorem q1005 : (Jvm.Cond.instanceMethod ({ cls := "LadderCallsModel", name := "evenOf", desc := "([I[II)I" } : Jvm.MethodName)) ∈ lw_all := lw_g (lw_at lw_m5 5 rfl) rfl
theorem q1006 : (Jvm.Cond.code ({ cls := "LadderCallsModel", name := "evenOf", desc := "([I[II)I" } : Jvm.MethodName) prog_13_method_22_code (6 : Nat) (Option.some Jvm.ClassFile.FieldType.int)) ∈ lw_all := lw_g (lw_at lw_m5 6 rfl) rfl
theorem q1007 : (Jvm.Cond.constantLong "LadderCallsModel" (128 : Nat) (10 : Int64)) ∈ lw_all := lw_g (lw_at lw_m5 7 rfl) rfl
theorem q1008 : (Jvm.Cond.constantLong "LadderCallsModel" (145 : Nat) (1000 : Int64)) ∈ lw_all := lw_g (lw_at lw_m5 8 rfl) rfl
theorem q1009 : (Jvm.Cond.methodLink "LadderCallsModel" (147 : Nat) ({ cls := "LadderCallsModel", name := "serves", desc := "([III)V" } : Jvm.MethodName)) ∈ lw_all := lw_g (lw_at lw_m5 9 rfl) rfl
theorem q1010 : (Jvm.Cond.privateMethod ({ cls := "LadderCallsModel", name := "serves", desc := "([III)V" } : Jvm.MethodName)) ∈ lw_tbl := lw_at lw_m5 10 rfl
theorem q1011 : (Jvm.Cond.instanceMethod ({ cls := "LadderCallsModel", name := "serves", desc := "([III)V" } : Jvm.MethodName)) ∈ lw_all := lw_g (lw_at lw_m5 11 rfl) rfl
theorem q1012 : (Jvm.Cond.code ({ cls := "LadderCallsModel", name := "serves", desc := "([III)V" } : Jvm.MethodName) prog_13_method_16_code (8 : Nat) (Option.none : Option Jvm.ClassFile.FieldType)) ∈ lw_all := lw_g (lw_at lw_m5 12 rfl) rfl
theorem q1013 : (Jvm.Cond.methodLink "LadderCallsModel" (113 : Nat) ({ cls := "LadderCallsModel", name := "moved", desc := "(III)I" } : Jvm.MethodName)) ∈ lw_all := lw_g (lw_at lw_m5 13 rfl) rfl
theorem q1014 : (Jvm.Cond.static ({ cls := "LadderCallsModel", name := "moved", desc := "(III)I" } : Jvm.MethodName)) ∈ lw_all := lw_g (lw_at lw_m5 14 rfl) rfl
theorem q1015 : (Jvm.Cond.code ({ cls := "LadderCallsModel", name := "moved", desc := "(III)I" } : Jvm.MethodName) prog_13_method_15_code (3 : Nat) (Option.some Jvm.ClassFile.FieldType.int)) ∈ lw_all := lw_g (lw_at lw_m5 15 rfl) rfl
theorem q1016 : (Jvm.Cond.methodLink "LadderCallsModel" (151 : Nat) ({ cls := "LadderCallsModel", name := "workOf", desc := "([III)I" } : Jvm.MethodName)) ∈ lw_all := lw_g (lw_at lw_m5 16 rfl) rfl
theorem q1017 : (Jvm.Cond.privateMethod ({ cls := "LadderCallsModel", name := "workOf", desc := "([III)I" } : Jvm.MethodName)) ∈ lw_tbl := lw_at lw_m5 17 rfl
theorem q1018 : (Jvm.Cond.instanceMethod ({ cls := "LadderCallsModel", name := "workOf", desc := "([III)I" } : Jvm.MethodName)) ∈ lw_all := lw_g (lw_at lw_m5 18 rfl) rfl
theorem q1019 : (Jvm.Cond.code ({ cls := "LadderCallsModel", name := "workOf", desc := "([III)I" } : Jvm.MethodName) prog_13_method_19_code (7 : Nat) (Option.some Jvm.ClassFile.FieldType.int)) ∈ lw_all := lw_g (lw_at lw_m5 19 rfl) rfl
theorem q1020 : (Jvm.Cond.methodLink "LadderCallsModel" (120 : Nat) ({ cls := "LadderCallsModel", name := "movesOf", desc := "(II)I" } : Jvm.MethodName)) ∈ lw_all := lw_g (lw_at lw_m5 20 rfl) rfl
theorem q1021 : (Jvm.Cond.privateMethod ({ cls := "LadderCallsModel", name := "movesOf", desc := "(II)I" } : Jvm.MethodName)) ∈ lw_tbl := lw_at lw_m5 21 rfl
theorem q1022 : (Jvm.Cond.instanceMethod ({ cls := "LadderCallsModel", name := "movesOf", desc := "(II)I" } : Jvm.MethodName)) ∈ lw_all := lw_g (lw_at lw_m5 22 rfl) rfl
theorem q1023 : (Jvm.Cond.code ({ cls := "LadderCallsModel", name := "movesOf", desc := "(II)I" } : Jvm.MethodName) prog_13_method_14_code (7 : Nat) (Option.some Jvm.ClassFile.FieldType.int)) ∈ lw_all := lw_g (lw_at lw_m5 23 rfl) rfl
theorem q1024 : (Jvm.Cond.methodLink "LadderCallsModel" (109 : Nat) ({ cls := "LadderCallsModel", name := "farOf", desc := "(IIII)I" } : Jvm.MethodName)) ∈ lw_all := lw_g (lw_at lw_m5 24 rfl) rfl
theorem q1025 : (Jvm.Cond.privateMethod ({ cls := "LadderCallsModel", name := "farOf", desc := "(IIII)I" } : Jvm.MethodName)) ∈ lw_tbl := lw_at lw_m5 25 rfl
theorem q1026 : (Jvm.Cond.instanceMethod ({ cls := "LadderCallsModel", name := "farOf", desc := "(IIII)I" } : Jvm.MethodName)) ∈ lw_all := lw_g (lw_at lw_m5 26 rfl) rfl
theorem q1027 : (Jvm.Cond.code ({ cls := "LadderCallsModel", name := "farOf", desc := "(IIII)I" } : Jvm.MethodName) prog_13_method_13_code (5 : Nat) (Option.some Jvm.ClassFile.FieldType.int)) ∈ lw_all := lw_g (lw_at lw_m5 27 rfl) rfl
theorem q1029 : (Jvm.Cond.instanceMethod ({ cls := "LadderCallsModel", name := "back", desc := "()I" } : Jvm.MethodName)) ∈ lw_all := lw_g (lw_at lw_m5 29 rfl) rfl
theorem q1030 : (Jvm.Cond.selects "LadderCallsModel" ({ cls := "LadderCallsModel", name := "back", desc := "()I" } : Jvm.MethodName) ({ cls := "LadderCallsModel", name := "back", desc := "()I" } : Jvm.MethodName)) ∈ lw_all := lw_g (lw_at lw_m5 30 rfl) rfl
theorem q1031 : (Jvm.Cond.code ({ cls := "LadderCallsModel", name := "back", desc := "()I" } : Jvm.MethodName) prog_13_method_29_code (2 : Nat) (Option.some Jvm.ClassFile.FieldType.int)) ∈ lw_all := lw_g (lw_at lw_m5 31 rfl) rfl
theorem q1033 : (Jvm.Cond.instanceMethod ({ cls := "LadderCallsModel", name := "cruel", desc := "()I" } : Jvm.MethodName)) ∈ lw_all := lw_g (lw_at lw_m5 33 rfl) rfl
theorem q1034 : (Jvm.Cond.selects "LadderCallsModel" ({ cls := "LadderCallsModel", name := "cruel", desc := "()I" } : Jvm.MethodName) ({ cls := "LadderCallsModel", name := "cruel", desc := "()I" } : Jvm.MethodName)) ∈ lw_all := lw_g (lw_at lw_m5 34 rfl) rfl
theorem q1035 : (Jvm.Cond.code ({ cls := "LadderCallsModel", name := "cruel", desc := "()I" } : Jvm.MethodName) prog_13_method_30_code (3 : Nat) (Option.some Jvm.ClassFile.FieldType.int)) ∈ lw_all := lw_g (lw_at lw_m5 35 rfl) rfl
theorem q1037 : (Jvm.Cond.instanceMethod ({ cls := "LadderCallsModel", name := "ask", desc := "(I)I" } : Jvm.MethodName)) ∈ lw_all := lw_g (lw_at lw_m5 37 rfl) rfl
theorem q1038 : (Jvm.Cond.selects "LadderCallsModel" ({ cls := "LadderCallsModel", name := "ask", desc := "(I)I" } : Jvm.MethodName) ({ cls := "LadderCallsModel", name := "ask", desc := "(I)I" } : Jvm.MethodName)) ∈ lw_all := lw_g (lw_at lw_m5 38 rfl) rfl
theorem q1039 : (Jvm.Cond.code ({ cls := "LadderCallsModel", name := "ask", desc := "(I)I" } : Jvm.MethodName) prog_13_method_31_code (3 : Nat) (Option.some Jvm.ClassFile.FieldType.int)) ∈ lw_all := lw_g (lw_at lw_m5 39 rfl) rfl
theorem q1041 : (Jvm.Cond.instanceMethod ({ cls := "LadderCallsModel", name := "stand", desc := "()I" } : Jvm.MethodName)) ∈ lw_all := lw_g (lw_at lw_m5 41 rfl) rfl
theorem q1042 : (Jvm.Cond.selects "LadderCallsModel" ({ cls := "LadderCallsModel", name := "stand", desc := "()I" } : Jvm.MethodName) ({ cls := "LadderCallsModel", name := "stand", desc := "()I" } : Jvm.MethodName)) ∈ lw_all := lw_g (lw_at lw_m5 42 rfl) rfl
theorem q1043 : (Jvm.Cond.code ({ cls := "LadderCallsModel", name := "stand", desc := "()I" } : Jvm.MethodName) prog_13_method_32_code (3 : Nat) (Option.some Jvm.ClassFile.FieldType.int)) ∈ lw_all := lw_g (lw_at lw_m5 43 rfl) rfl
theorem q1045 : (Jvm.Cond.instanceMethod ({ cls := "LadderCallsModel", name := "told", desc := "(II)I" } : Jvm.MethodName)) ∈ lw_all := lw_g (lw_at lw_m5 45 rfl) rfl
theorem q1046 : (Jvm.Cond.selects "LadderCallsModel" ({ cls := "LadderCallsModel", name := "told", desc := "(II)I" } : Jvm.MethodName) ({ cls := "LadderCallsModel", name := "told", desc := "(II)I" } : Jvm.MethodName)) ∈ lw_all := lw_g (lw_at lw_m5 46 rfl) rfl
theorem q1047 : (Jvm.Cond.code ({ cls := "LadderCallsModel", name := "told", desc := "(II)I" } : Jvm.MethodName) prog_13_method_33_code (3 : Nat) (Option.some Jvm.ClassFile.FieldType.int)) ∈ lw_all := lw_g (lw_at lw_m5 47 rfl) rfl
theorem q1049 : (Jvm.Cond.instanceMethod ({ cls := "LadderCallsModel", name := "cost", desc := "(I)I" } : Jvm.MethodName)) ∈ lw_all := lw_g (lw_at lw_m5 49 rfl) rfl
theorem q1050 : (Jvm.Cond.selects "LadderCallsModel" ({ cls := "LadderCallsModel", name := "cost", desc := "(I)I" } : Jvm.MethodName) ({ cls := "LadderCallsModel", name := "cost", desc := "(I)I" } : Jvm.MethodName)) ∈ lw_all := lw_g (lw_at lw_m5 50 rfl) rfl
theorem q1051 : (Jvm.Cond.code ({ cls := "LadderCallsModel", name := "cost", desc := "(I)I" } : Jvm.MethodName) prog_13_method_35_code (2 : Nat) (Option.some Jvm.ClassFile.FieldType.int)) ∈ lw_all := lw_g (lw_at lw_m5 51 rfl) rfl
theorem q1052 : (Jvm.Cond.methodLink "LadderCallsModel" (183 : Nat) ({ cls := "LadderCallsModel", name := "costOf", desc := "()I" } : Jvm.MethodName)) ∈ lw_all := lw_g (lw_at lw_m5 52 rfl) rfl
theorem q1053 : (Jvm.Cond.privateMethod ({ cls := "LadderCallsModel", name := "costOf", desc := "()I" } : Jvm.MethodName)) ∈ lw_tbl := lw_at lw_m5 53 rfl
theorem q1054 : (Jvm.Cond.instanceMethod ({ cls := "LadderCallsModel", name := "costOf", desc := "()I" } : Jvm.MethodName)) ∈ lw_all := lw_g (lw_at lw_m5 54 rfl) rfl
theorem q1055 : (Jvm.Cond.code ({ cls := "LadderCallsModel", name := "costOf", desc := "()I" } : Jvm.MethodName) prog_13_method_34_code (3 : Nat) (Option.some Jvm.ClassFile.FieldType.int)) ∈ lw_all := lw_g (lw_at lw_m5 55 rfl) rfl
theorem q1057 : (Jvm.Cond.instanceMethod ({ cls := "LadderCallsModel", name := "moves", desc := "(II)I" } : Jvm.MethodName)) ∈ lw_all := lw_g (lw_at lw_m5 57 rfl) rfl
theorem q1058 : (Jvm.Cond.selects "LadderCallsModel" ({ cls := "LadderCallsModel", name := "moves", desc := "(II)I" } : Jvm.MethodName) ({ cls := "LadderCallsModel", name := "moves", desc := "(II)I" } : Jvm.MethodName)) ∈ lw_all := lw_g (lw_at lw_m5 58 rfl) rfl
theorem q1059 : (Jvm.Cond.code ({ cls := "LadderCallsModel", name := "moves", desc := "(II)I" } : Jvm.MethodName) prog_13_method_36_code (3 : Nat) (Option.some Jvm.ClassFile.FieldType.int)) ∈ lw_all := lw_g (lw_at lw_m5 59 rfl) rfl
theorem q1061 : (Jvm.Cond.instanceMethod ({ cls := "LadderCallsModel", name := "work", desc := "(II)I" } : Jvm.MethodName)) ∈ lw_all := lw_g (lw_at lw_m5 61 rfl) rfl
theorem q1062 : (Jvm.Cond.selects "LadderCallsModel" ({ cls := "LadderCallsModel", name := "work", desc := "(II)I" } : Jvm.MethodName) ({ cls := "LadderCallsModel", name := "work", desc := "(II)I" } : Jvm.MethodName)) ∈ lw_all := lw_g (lw_at lw_m5 62 rfl) rfl
theorem q1063 : (Jvm.Cond.code ({ cls := "LadderCallsModel", name := "work", desc := "(II)I" } : Jvm.MethodName) prog_13_method_37_code (3 : Nat) (Option.some Jvm.ClassFile.FieldType.int)) ∈ lw_all := lw_g (lw_at lw_m5 63 rfl) rfl
theorem q1065 : (Jvm.Cond.instanceMethod ({ cls := "LadderCallsModel", name := "least", desc := "(I)I" } : Jvm.MethodName)) ∈ lw_all := lw_g (lw_at lw_m5 65 rfl) rfl
theorem q1066 : (Jvm.Cond.selects "LadderCallsModel" ({ cls := "LadderCallsModel", name := "least", desc := "(I)I" } : Jvm.MethodName) ({ cls := "LadderCallsModel", name := "least", desc := "(I)I" } : Jvm.MethodName)) ∈ lw_all := lw_g (lw_at lw_m5 66 rfl) rfl
theorem q1067 : (Jvm.Cond.code ({ cls := "LadderCallsModel", name := "least", desc := "(I)I" } : Jvm.MethodName) prog_13_method_38_code (2 : Nat) (Option.some Jvm.ClassFile.FieldType.int)) ∈ lw_all := lw_g (lw_at lw_m5 67 rfl) rfl
theorem q1068 : (Jvm.Cond.methodLink "LadderCallsModel" (187 : Nat) ({ cls := "LadderCallsModel", name := "leastOf", desc := "([II)I" } : Jvm.MethodName)) ∈ lw_all := lw_g (lw_at lw_m5 68 rfl) rfl
theorem q1069 : (Jvm.Cond.static ({ cls := "LadderCallsModel", name := "leastOf", desc := "([II)I" } : Jvm.MethodName)) ∈ lw_all := lw_g (lw_at lw_m5 69 rfl) rfl
theorem q1070 : (Jvm.Cond.code ({ cls := "LadderCallsModel", name := "leastOf", desc := "([II)I" } : Jvm.MethodName) prog_13_method_18_code (4 : Nat) (Option.some Jvm.ClassFile.FieldType.int)) ∈ lw_all := lw_g (lw_at lw_m5 70 rfl) rfl
theorem q1072 : (Jvm.Cond.instanceMethod ({ cls := "LadderCallsModel", name := "plan", desc := "(II)I" } : Jvm.MethodName)) ∈ lw_all := lw_g (lw_at lw_m5 72 rfl) rfl
theorem q1073 : (Jvm.Cond.selects "LadderCallsModel" ({ cls := "LadderCallsModel", name := "plan", desc := "(II)I" } : Jvm.MethodName) ({ cls := "LadderCallsModel", name := "plan", desc := "(II)I" } : Jvm.MethodName)) ∈ lw_all := lw_g (lw_at lw_m5 73 rfl) rfl
theorem q1074 : (Jvm.Cond.code ({ cls := "LadderCallsModel", name := "plan", desc := "(II)I" } : Jvm.MethodName) prog_13_method_39_code (7 : Nat) (Option.some Jvm.ClassFile.FieldType.int)) ∈ lw_all := lw_g (lw_at lw_m5 74 rfl) rfl
theorem q1076 : (Jvm.Cond.instanceMethod ({ cls := "LadderCallsModel", name := "ratio", desc := "()I" } : Jvm.MethodName)) ∈ lw_all := lw_g (lw_at lw_m5 76 rfl) rfl
theorem q1077 : (Jvm.Cond.selects "LadderCallsModel" ({ cls := "LadderCallsModel", name := "ratio", desc := "()I" } : Jvm.MethodName) ({ cls := "LadderCallsModel", name := "ratio", desc := "()I" } : Jvm.MethodName)) ∈ lw_all := lw_g (lw_at lw_m5 77 rfl) rfl
theorem q1078 : (Jvm.Cond.code ({ cls := "LadderCallsModel", name := "ratio", desc := "()I" } : Jvm.MethodName) prog_13_method_40_code (2 : Nat) (Option.some Jvm.ClassFile.FieldType.int)) ∈ lw_all := lw_g (lw_at lw_m5 78 rfl) rfl
theorem q1080 : (Jvm.Cond.instanceMethod ({ cls := "LadderCallsModel", name := "worst", desc := "(II)I" } : Jvm.MethodName)) ∈ lw_all := lw_g (lw_at lw_m5 80 rfl) rfl
theorem q1081 : (Jvm.Cond.selects "LadderCallsModel" ({ cls := "LadderCallsModel", name := "worst", desc := "(II)I" } : Jvm.MethodName) ({ cls := "LadderCallsModel", name := "worst", desc := "(II)I" } : Jvm.MethodName)) ∈ lw_all := lw_g (lw_at lw_m5 81 rfl) rfl
theorem q1082 : (Jvm.Cond.code ({ cls := "LadderCallsModel", name := "worst", desc := "(II)I" } : Jvm.MethodName) prog_13_method_41_code (17 : Nat) (Option.some Jvm.ClassFile.FieldType.int)) ∈ lw_all := lw_g (lw_at lw_m5 82 rfl) rfl
theorem q1083 : (Jvm.Cond.constantLong "LadderCallsModel" (190 : Nat) (2 : Int64)) ∈ lw_all := lw_g (lw_at lw_m5 83 rfl) rfl
theorem q1085 : (Jvm.Cond.instanceMethod ({ cls := "LadderCallsModel", name := "book", desc := "(III)I" } : Jvm.MethodName)) ∈ lw_all := lw_g (lw_at lw_m5 85 rfl) rfl
theorem q1086 : (Jvm.Cond.selects "LadderCallsModel" ({ cls := "LadderCallsModel", name := "book", desc := "(III)I" } : Jvm.MethodName) ({ cls := "LadderCallsModel", name := "book", desc := "(III)I" } : Jvm.MethodName)) ∈ lw_all := lw_g (lw_at lw_m5 86 rfl) rfl
theorem q1087 : (Jvm.Cond.code ({ cls := "LadderCallsModel", name := "book", desc := "(III)I" } : Jvm.MethodName) prog_13_method_43_code (5 : Nat) (Option.some Jvm.ClassFile.FieldType.int)) ∈ lw_all := lw_g (lw_at lw_m5 87 rfl) rfl
theorem q1088 : (Jvm.Cond.methodLink "LadderCallsModel" (195 : Nat) ({ cls := "LadderCallsModel", name := "no", desc := "(I)I" } : Jvm.MethodName)) ∈ lw_all := lw_g (lw_at lw_m5 88 rfl) rfl
theorem q1089 : (Jvm.Cond.privateMethod ({ cls := "LadderCallsModel", name := "no", desc := "(I)I" } : Jvm.MethodName)) ∈ lw_tbl := lw_at lw_m5 89 rfl
theorem q1090 : (Jvm.Cond.instanceMethod ({ cls := "LadderCallsModel", name := "no", desc := "(I)I" } : Jvm.MethodName)) ∈ lw_all := lw_g (lw_at lw_m5 90 rfl) rfl
theorem q1091 : (Jvm.Cond.code ({ cls := "LadderCallsModel", name := "no", desc := "(I)I" } : Jvm.MethodName) prog_13_method_42_code (2 : Nat) (Option.some Jvm.ClassFile.FieldType.int)) ∈ lw_all := lw_g (lw_at lw_m5 91 rfl) rfl
theorem q1093 : (Jvm.Cond.instanceMethod ({ cls := "LadderCallsModel", name := "row", desc := "(III)I" } : Jvm.MethodName)) ∈ lw_all := lw_g (lw_at lw_m5 93 rfl) rfl
theorem q1094 : (Jvm.Cond.selects "LadderCallsModel" ({ cls := "LadderCallsModel", name := "row", desc := "(III)I" } : Jvm.MethodName) ({ cls := "LadderCallsModel", name := "row", desc := "(III)I" } : Jvm.MethodName)) ∈ lw_all := lw_g (lw_at lw_m5 94 rfl) rfl
theorem q1095 : (Jvm.Cond.code ({ cls := "LadderCallsModel", name := "row", desc := "(III)I" } : Jvm.MethodName) prog_13_method_44_code (5 : Nat) (Option.some Jvm.ClassFile.FieldType.int)) ∈ lw_all := lw_g (lw_at lw_m5 95 rfl) rfl
theorem q1097 : (Jvm.Cond.instanceMethod ({ cls := "LadderCallsModel", name := "put", desc := "(IIIIJ)I" } : Jvm.MethodName)) ∈ lw_all := lw_g (lw_at lw_m5 97 rfl) rfl
theorem q1098 : (Jvm.Cond.selects "LadderCallsModel" ({ cls := "LadderCallsModel", name := "put", desc := "(IIIIJ)I" } : Jvm.MethodName) ({ cls := "LadderCallsModel", name := "put", desc := "(IIIIJ)I" } : Jvm.MethodName)) ∈ lw_all := lw_g (lw_at lw_m5 98 rfl) rfl
theorem q1099 : (Jvm.Cond.code ({ cls := "LadderCallsModel", name := "put", desc := "(IIIIJ)I" } : Jvm.MethodName) prog_13_method_46_code (7 : Nat) (Option.some Jvm.ClassFile.FieldType.int)) ∈ lw_all := lw_g (lw_at lw_m5 99 rfl) rfl
theorem q1100 : (Jvm.Cond.methodLink "LadderCallsModel" (198 : Nat) ({ cls := "LadderCallsModel", name := "wrong", desc := "(IIII)I" } : Jvm.MethodName)) ∈ lw_all := lw_g (lw_at lw_m5 100 rfl) rfl
theorem q1101 : (Jvm.Cond.privateMethod ({ cls := "LadderCallsModel", name := "wrong", desc := "(IIII)I" } : Jvm.MethodName)) ∈ lw_tbl := lw_at lw_m5 101 rfl
theorem q1102 : (Jvm.Cond.instanceMethod ({ cls := "LadderCallsModel", name := "wrong", desc := "(IIII)I" } : Jvm.MethodName)) ∈ lw_all := lw_g (lw_at lw_m5 102 rfl) rfl
theorem q1103 : (Jvm.Cond.code ({ cls := "LadderCallsModel", name := "wrong", desc := "(IIII)I" } : Jvm.MethodName) prog_13_method_45_code (6 : Nat) (Option.some Jvm.ClassFile.FieldType.int)) ∈ lw_all := lw_g (lw_at lw_m5 103 rfl) rfl
theorem q1105 : (Jvm.Cond.instanceMethod ({ cls := "LadderCallsModel", name := "item", desc := "(IIII)J" } : Jvm.MethodName)) ∈ lw_all := lw_g (lw_at lw_m5 105 rfl) rfl
theorem q1106 : (Jvm.Cond.selects "LadderCallsModel" ({ cls := "LadderCallsModel", name := "item", desc := "(IIII)J" } : Jvm.MethodName) ({ cls := "LadderCallsModel", name := "item", desc := "(IIII)J" } : Jvm.MethodName)) ∈ lw_all := lw_g (lw_at lw_m5 106 rfl) rfl
theorem q1107 : (Jvm.Cond.code ({ cls := "LadderCallsModel", name := "item", desc := "(IIII)J" } : Jvm.MethodName) prog_13_method_47_code (5 : Nat) (Option.some Jvm.ClassFile.FieldType.long)) ∈ lw_all := lw_g (lw_at lw_m5 107 rfl) rfl
theorem q1109 : (Jvm.Cond.instanceMethod ({ cls := "LadderCallsModel", name := "roads", desc := "(I)I" } : Jvm.MethodName)) ∈ lw_all := lw_g (lw_at lw_m5 109 rfl) rfl
theorem q1110 : (Jvm.Cond.selects "LadderCallsModel" ({ cls := "LadderCallsModel", name := "roads", desc := "(I)I" } : Jvm.MethodName) ({ cls := "LadderCallsModel", name := "roads", desc := "(I)I" } : Jvm.MethodName)) ∈ lw_all := lw_g (lw_at lw_m5 110 rfl) rfl
theorem q1111 : (Jvm.Cond.code ({ cls := "LadderCallsModel", name := "roads", desc := "(I)I" } : Jvm.MethodName) prog_13_method_48_code (7 : Nat) (Option.some Jvm.ClassFile.FieldType.int)) ∈ lw_all := lw_g (lw_at lw_m5 111 rfl) rfl
theorem q1113 : (Jvm.Cond.instanceMethod ({ cls := "LadderCallsModel", name := "calls", desc := "(II)I" } : Jvm.MethodName)) ∈ lw_all := lw_g (lw_at lw_m5 113 rfl) rfl
theorem q1114 : (Jvm.Cond.selects "LadderCallsModel" ({ cls := "LadderCallsModel", name := "calls", desc := "(II)I" } : Jvm.MethodName) ({ cls := "LadderCallsModel", name := "calls", desc := "(II)I" } : Jvm.MethodName)) ∈ lw_all := lw_g (lw_at lw_m5 114 rfl) rfl
theorem q1115 : (Jvm.Cond.code ({ cls := "LadderCallsModel", name := "calls", desc := "(II)I" } : Jvm.MethodName) prog_13_method_49_code (8 : Nat) (Option.some Jvm.ClassFile.FieldType.int)) ∈ lw_all := lw_g (lw_at lw_m5 115 rfl) rfl
theorem q1117 : (Jvm.Cond.instanceMethod ({ cls := "LadderCallsModel", name := "about", desc := "(I)I" } : Jvm.MethodName)) ∈ lw_all := lw_g (lw_at lw_m5 117 rfl) rfl
theorem q1118 : (Jvm.Cond.selects "LadderCallsModel" ({ cls := "LadderCallsModel", name := "about", desc := "(I)I" } : Jvm.MethodName) ({ cls := "LadderCallsModel", name := "about", desc := "(I)I" } : Jvm.MethodName)) ∈ lw_all := lw_g (lw_at lw_m5 118 rfl) rfl
theorem q1119 : (Jvm.Cond.code ({ cls := "LadderCallsModel", name := "about", desc := "(I)I" } : Jvm.MethodName) prog_13_method_50_code (2 : Nat) (Option.some Jvm.ClassFile.FieldType.int)) ∈ lw_all := lw_g (lw_at lw_m5 119 rfl) rfl
theorem q1121 : (Jvm.Cond.instanceMethod ({ cls := "LadderCallsModel", name := "trace", desc := "()J" } : Jvm.MethodName)) ∈ lw_all := lw_g (lw_at lw_m5 121 rfl) rfl
theorem q1122 : (Jvm.Cond.selects "LadderCallsModel" ({ cls := "LadderCallsModel", name := "trace", desc := "()J" } : Jvm.MethodName) ({ cls := "LadderCallsModel", name := "trace", desc := "()J" } : Jvm.MethodName)) ∈ lw_all := lw_g (lw_at lw_m5 122 rfl) rfl
theorem q1123 : (Jvm.Cond.code ({ cls := "LadderCallsModel", name := "trace", desc := "()J" } : Jvm.MethodName) prog_13_method_51_code (1 : Nat) (Option.some Jvm.ClassFile.FieldType.long)) ∈ lw_all := lw_g (lw_at lw_m5 123 rfl) rfl
theorem q1125 : (Jvm.Cond.instanceMethod ({ cls := "LadderCallsModel", name := "status", desc := "()I" } : Jvm.MethodName)) ∈ lw_all := lw_g (lw_at lw_m5 125 rfl) rfl
theorem q1126 : (Jvm.Cond.selects "LadderCallsModel" ({ cls := "LadderCallsModel", name := "status", desc := "()I" } : Jvm.MethodName) ({ cls := "LadderCallsModel", name := "status", desc := "()I" } : Jvm.MethodName)) ∈ lw_all := lw_g (lw_at lw_m5 126 rfl) rfl
theorem q1127 : (Jvm.Cond.code ({ cls := "LadderCallsModel", name := "status", desc := "()I" } : Jvm.MethodName) prog_13_method_52_code (1 : Nat) (Option.some Jvm.ClassFile.FieldType.int)) ∈ lw_all := lw_g (lw_at lw_m5 127 rfl) rfl
theorem in_X5 : ∀ w ∈ wsX50, w ∈ lw_all := lw_in wsX50 [859, 861, 863, 865, 867, 869, 871, 873, 875, 877, 879, 881, 883, 885, 887, 889, 891, 893, 895, 897, 899, 901, 903, 905, 907, 909, 911, 913, 915, 917, 919, 921] (by decide +kernel) (by decide +kernel)
