theorem q72 : (Jvm.Cond.arrayOver (Jvm.ClassFile.FieldType.object "LadderCalls$Near")) ∈ lw_tbl := lw_at lw_m1 32 rfl
set_option maxRecDepth 100000
theorem q82 : (Jvm.Cond.arrayClass Jvm.ClassFile.FieldType.int) ∈ lw_all := lw_g (lw_at lw_m1 42 rfl) rfl
theorem q121 : (Jvm.Cond.arrayOver (Jvm.ClassFile.FieldType.array Jvm.ClassFile.FieldType.int)) ∈ lw_tbl := lw_at lw_m1 81 rfl
theorem q123 : (Jvm.Cond.arrayOver (Jvm.ClassFile.FieldType.object "LadderCalls$Book")) ∈ lw_tbl := lw_at lw_m1 83 rfl
theorem q582 : (Jvm.Cond.arrayClass Jvm.ClassFile.FieldType.byte) ∈ lw_all := lw_g (lw_at lw_m3 62 rfl) rfl
theorem q607 : (Jvm.Cond.arrayOver (Jvm.ClassFile.FieldType.array Jvm.ClassFile.FieldType.byte)) ∈ lw_tbl := lw_at lw_m3 87 rfl
theorem q620 : (Jvm.Cond.arrayOver (Jvm.ClassFile.FieldType.array Jvm.ClassFile.FieldType.short)) ∈ lw_tbl := lw_at lw_m3 100 rfl
theorem q645 : (Jvm.Cond.arrayOver (Jvm.ClassFile.FieldType.array Jvm.ClassFile.FieldType.long)) ∈ lw_tbl := lw_at lw_m3 125 rfl
theorem q718 : (Jvm.Cond.arrayClass Jvm.ClassFile.FieldType.long) ∈ lw_all := lw_g (lw_at lw_m3 198 rfl) rfl
theorem q719 : (Jvm.Cond.arrayClass Jvm.ClassFile.FieldType.short) ∈ lw_all := lw_g (lw_at lw_m3 199 rfl) rfl
theorem q924 : (Jvm.Cond.arrayClass Jvm.ClassFile.FieldType.boolean) ∈ lw_all := lw_g (lw_at lw_m4 164 rfl) rfl
theorem q48 : (Jvm.Cond.initialized "java/lang/System") ∈ lw_all := lw_g (lw_at lw_m1 8 rfl) rfl
set_option maxRecDepth 100000
theorem q388 : (Jvm.Cond.static ({ cls := "java/lang/System", name := "arraycopy", desc := "(Ljava/lang/Object;ILjava/lang/Object;II)V" } : Jvm.MethodName)) ∈ lw_all := lw_g (lw_at lw_m2 108 rfl) rfl
theorem q389 : (Jvm.Cond.native ({ cls := "java/lang/System", name := "arraycopy", desc := "(Ljava/lang/Object;ILjava/lang/Object;II)V" } : Jvm.MethodName)) ∈ lw_all := lw_g (lw_at lw_m2 109 rfl) rfl
/-! java/lang/Object -/
set_option maxRecDepth 100000
def RJ10 : String := "java/lang/Object"
abbrev cJ10_init : ByteArray := object_method_1_code
def yJ10_init : MethodName := ⟨RJ10, "<init>", "()V"⟩
theorem dJ10_init_0 : decode cJ10_init 0 = .ok (.return_, 1) := by decide +kernel
theorem q69 : (Jvm.Cond.instanceMethod ({ cls := "java/lang/Object", name := "<init>", desc := "()V" } : Jvm.MethodName)) ∈ lw_all := lw_g (lw_at lw_m1 29 rfl) rfl
theorem q70 : (Jvm.Cond.code ({ cls := "java/lang/Object", name := "<init>", desc := "()V" } : Jvm.MethodName) object_method_1_code (1 : Nat) (Option.none : Option Jvm.ClassFile.FieldType)) ∈ lw_all := lw_g (lw_at lw_m1 30 rfl) rfl
/-! java/lang/Math -/
set_option maxRecDepth 100000
def RJ0 : String := "java/lang/Math"
abbrev cJ0_min : ByteArray := prog_18_method_69_code
def yJ0_min : MethodName := ⟨RJ0, "min", "(II)I"⟩
def dkwJ0_min_0 : List UInt8 := [26, 27, 163, 0, 7, 26, 167, 0, 4, 27, 172]
abbrev dktJ0_min_0 : List UInt8 := dkwJ0_min_0 ++ []
theorem dksJ0_min_0 : cJ0_min.data.toList.drop 0 = dktJ0_min_0 := by decide +kernel
theorem dJ0_min_0 : decode cJ0_min 0 = .ok (.iload_n 0, 1) := dk_26 (dk_at dksJ0_min_0 0 rfl rfl)
theorem dJ0_min_1 : decode cJ0_min 1 = .ok (.iload_n 1, 1) := dk_27 (dk_at dksJ0_min_0 1 rfl rfl)
theorem dJ0_min_2 : decode cJ0_min 2 = .ok (.if_icmp .gt 7, 3) := dk_163 0 7 (dk_at dksJ0_min_0 2 rfl rfl)
theorem dJ0_min_5 : decode cJ0_min 5 = .ok (.iload_n 0, 1) := dk_26 (dk_at dksJ0_min_0 5 rfl rfl)
theorem dJ0_min_6 : decode cJ0_min 6 = .ok (.goto 4, 3) := dk_167 0 4 (dk_at dksJ0_min_0 6 rfl rfl)
theorem dJ0_min_9 : decode cJ0_min 9 = .ok (.iload_n 1, 1) := dk_27 (dk_at dksJ0_min_0 9 rfl rfl)
theorem dJ0_min_10 : decode cJ0_min 10 = .ok (.ireturn, 1) := dk_172 (dk_at dksJ0_min_0 10 rfl rfl)
theorem q47 : (Jvm.Cond.initialized "java/lang/Math") ∈ lw_all := lw_g (lw_at lw_m1 7 rfl) rfl
theorem q244 : (Jvm.Cond.static ({ cls := "java/lang/Math", name := "min", desc := "(II)I" } : Jvm.MethodName)) ∈ lw_all := lw_g (lw_at lw_m1 204 rfl) rfl
theorem q245 : (Jvm.Cond.code ({ cls := "java/lang/Math", name := "min", desc := "(II)I" } : Jvm.MethodName) prog_18_method_69_code (2 : Nat) (Option.some Jvm.ClassFile.FieldType.int)) ∈ lw_all := lw_g (lw_at lw_m1 205 rfl) rfl
/-! java/lang/Throwable -/
set_option maxRecDepth 100000
def RJ1 : String := "java/lang/Throwable"
def TJ1 : u_T := fun k => match k with
  | 0 => ("java/lang/Throwable", "cause", "Ljava/lang/Throwable;", false)
  | 1 => ("java/lang/Throwable", "stackTrace", "[Ljava/lang/StackTraceElement;", false)
  | 2 => ("java/lang/Throwable", "suppressedExceptions", "Ljava/util/List;", false)
  | 3 => ("java/lang/Throwable", "detailMessage", "Ljava/lang/String;", false)
  | _ => ("java/lang/Throwable", "backtrace", "Ljava/lang/Object;", false)
def tyJ1 : Nat → FieldType := fun k => match k with
  | 0 => .object "java/lang/Throwable"
  | 1 => .array (.object "java/lang/StackTraceElement")
  | 2 => .object "java/util/List"
  | 3 => .object "java/lang/String"
  | _ => .object "java/lang/Object"
abbrev wsJ10 : List Cond := u_ws RJ1 TJ1 5
theorem nmJ1 : ∀ a, a < 5 → ∀ b, b < 5 → a ≠ b → (TJ1 a).2.1 ≠ (TJ1 b).2.1 := by decide +kernel
theorem tyJ1_ok : ∀ k, k < 5 → parseFieldDescriptor (TJ1 k).2.2.1 = some (tyJ1 k) := by decide +kernel
abbrev cJ1_init : ByteArray := prog_24_method_2_code
def yJ1_init : MethodName := ⟨RJ1, "<init>", "(Ljava/lang/String;)V"⟩
def dkwJ1_init_1 : List UInt8 := [182, 0, 27, 87, 42, 43, 181, 0, 31, 177]
abbrev dktJ1_init_1 : List UInt8 := dkwJ1_init_1 ++ []
def dkwJ1_init_0 : List UInt8 := [42, 183, 0, 1, 42, 42, 181, 0, 7, 42, 178, 0, 13, 181, 0, 17, 42, 178, 0, 20, 181, 0, 24, 42]
abbrev dktJ1_init_0 : List UInt8 := dkwJ1_init_0 ++ dktJ1_init_1
theorem dksJ1_init_0 : cJ1_init.data.toList.drop 0 = dktJ1_init_0 := by decide +kernel
theorem dksJ1_init_1 : cJ1_init.data.toList.drop 24 = dktJ1_init_1 := dk_seg dksJ1_init_0 24 rfl rfl
theorem dJ1_init_0 : decode cJ1_init 0 = .ok (.aload_n 0, 1) := dk_42 (dk_at dksJ1_init_0 0 rfl rfl)
theorem dJ1_init_1 : decode cJ1_init 1 = .ok (.invokespecial 1, 3) := dk_183 0 1 (dk_at dksJ1_init_0 1 rfl rfl)
theorem dJ1_init_4 : decode cJ1_init 4 = .ok (.aload_n 0, 1) := dk_42 (dk_at dksJ1_init_0 4 rfl rfl)
theorem dJ1_init_5 : decode cJ1_init 5 = .ok (.aload_n 0, 1) := dk_42 (dk_at dksJ1_init_0 5 rfl rfl)
theorem dJ1_init_6 : decode cJ1_init 6 = .ok (.putfield 7, 3) := dk_181 0 7 (dk_at dksJ1_init_0 6 rfl rfl)
theorem dJ1_init_9 : decode cJ1_init 9 = .ok (.aload_n 0, 1) := dk_42 (dk_at dksJ1_init_0 9 rfl rfl)
theorem dJ1_init_10 : decode cJ1_init 10 = .ok (.getstatic 13, 3) := dk_178 0 13 (dk_at dksJ1_init_0 10 rfl rfl)
theorem dJ1_init_13 : decode cJ1_init 13 = .ok (.putfield 17, 3) := dk_181 0 17 (dk_at dksJ1_init_0 13 rfl rfl)
theorem dJ1_init_16 : decode cJ1_init 16 = .ok (.aload_n 0, 1) := dk_42 (dk_at dksJ1_init_0 16 rfl rfl)
theorem dJ1_init_17 : decode cJ1_init 17 = .ok (.getstatic 20, 3) := dk_178 0 20 (dk_at dksJ1_init_0 17 rfl rfl)
theorem dJ1_init_20 : decode cJ1_init 20 = .ok (.putfield 24, 3) := dk_181 0 24 (dk_at dksJ1_init_0 20 rfl rfl)
theorem dJ1_init_23 : decode cJ1_init 23 = .ok (.aload_n 0, 1) := dk_42 (dk_at dksJ1_init_0 23 rfl rfl)
theorem dJ1_init_24 : decode cJ1_init 24 = .ok (.invokevirtual 27, 3) := dk_182 0 27 (dk_at dksJ1_init_1 0 rfl rfl)
theorem dJ1_init_27 : decode cJ1_init 27 = .ok (.pop, 1) := dk_87 (dk_at dksJ1_init_1 3 rfl rfl)
theorem dJ1_init_28 : decode cJ1_init 28 = .ok (.aload_n 0, 1) := dk_42 (dk_at dksJ1_init_1 4 rfl rfl)
theorem dJ1_init_29 : decode cJ1_init 29 = .ok (.aload_n 1, 1) := dk_43 (dk_at dksJ1_init_1 5 rfl rfl)
theorem dJ1_init_30 : decode cJ1_init 30 = .ok (.putfield 31, 3) := dk_181 0 31 (dk_at dksJ1_init_1 6 rfl rfl)
theorem dJ1_init_33 : decode cJ1_init 33 = .ok (.return_, 1) := dk_177 (dk_at dksJ1_init_1 9 rfl rfl)
abbrev cJ1_init_2 : ByteArray := prog_24_method_1_code
def yJ1_init_2 : MethodName := ⟨RJ1, "<init>", "()V"⟩
def dkwJ1_init_2_1 : List UInt8 := [182, 0, 27, 87, 177]
abbrev dktJ1_init_2_1 : List UInt8 := dkwJ1_init_2_1 ++ []
def dkwJ1_init_2_0 : List UInt8 := [42, 183, 0, 1, 42, 42, 181, 0, 7, 42, 178, 0, 13, 181, 0, 17, 42, 178, 0, 20, 181, 0, 24, 42]
abbrev dktJ1_init_2_0 : List UInt8 := dkwJ1_init_2_0 ++ dktJ1_init_2_1
theorem dksJ1_init_2_0 : cJ1_init_2.data.toList.drop 0 = dktJ1_init_2_0 := by decide +kernel
theorem dksJ1_init_2_1 : cJ1_init_2.data.toList.drop 24 = dktJ1_init_2_1 := dk_seg dksJ1_init_2_0 24 rfl rfl
theorem dJ1_init_2_0 : decode cJ1_init_2 0 = .ok (.aload_n 0, 1) := dk_42 (dk_at dksJ1_init_2_0 0 rfl rfl)
theorem dJ1_init_2_1 : decode cJ1_init_2 1 = .ok (.invokespecial 1, 3) := dk_183 0 1 (dk_at dksJ1_init_2_0 1 rfl rfl)
theorem dJ1_init_2_4 : decode cJ1_init_2 4 = .ok (.aload_n 0, 1) := dk_42 (dk_at dksJ1_init_2_0 4 rfl rfl)
theorem dJ1_init_2_5 : decode cJ1_init_2 5 = .ok (.aload_n 0, 1) := dk_42 (dk_at dksJ1_init_2_0 5 rfl rfl)
theorem dJ1_init_2_6 : decode cJ1_init_2 6 = .ok (.putfield 7, 3) := dk_181 0 7 (dk_at dksJ1_init_2_0 6 rfl rfl)
theorem dJ1_init_2_9 : decode cJ1_init_2 9 = .ok (.aload_n 0, 1) := dk_42 (dk_at dksJ1_init_2_0 9 rfl rfl)
theorem dJ1_init_2_10 : decode cJ1_init_2 10 = .ok (.getstatic 13, 3) := dk_178 0 13 (dk_at dksJ1_init_2_0 10 rfl rfl)
theorem dJ1_init_2_13 : decode cJ1_init_2 13 = .ok (.putfield 17, 3) := dk_181 0 17 (dk_at dksJ1_init_2_0 13 rfl rfl)
theorem dJ1_init_2_16 : decode cJ1_init_2 16 = .ok (.aload_n 0, 1) := dk_42 (dk_at dksJ1_init_2_0 16 rfl rfl)
theorem dJ1_init_2_17 : decode cJ1_init_2 17 = .ok (.getstatic 20, 3) := dk_178 0 20 (dk_at dksJ1_init_2_0 17 rfl rfl)
theorem dJ1_init_2_20 : decode cJ1_init_2 20 = .ok (.putfield 24, 3) := dk_181 0 24 (dk_at dksJ1_init_2_0 20 rfl rfl)
theorem dJ1_init_2_23 : decode cJ1_init_2 23 = .ok (.aload_n 0, 1) := dk_42 (dk_at dksJ1_init_2_0 23 rfl rfl)
theorem dJ1_init_2_24 : decode cJ1_init_2 24 = .ok (.invokevirtual 27, 3) := dk_182 0 27 (dk_at dksJ1_init_2_1 0 rfl rfl)
theorem dJ1_init_2_27 : decode cJ1_init_2 27 = .ok (.pop, 1) := dk_87 (dk_at dksJ1_init_2_1 3 rfl rfl)
theorem dJ1_init_2_28 : decode cJ1_init_2 28 = .ok (.return_, 1) := dk_177 (dk_at dksJ1_init_2_1 4 rfl rfl)
theorem q49 : (Jvm.Cond.initialized "java/lang/Throwable") ∈ lw_all := lw_g (lw_at lw_m1 9 rfl) rfl
theorem q513 : (Jvm.Cond.instanceMethod ({ cls := "java/lang/Throwable", name := "<init>", desc := "(Ljava/lang/String;)V" } : Jvm.MethodName)) ∈ lw_all := lw_g (lw_at lw_m2 233 rfl) rfl
theorem q514 : (Jvm.Cond.code ({ cls := "java/lang/Throwable", name := "<init>", desc := "(Ljava/lang/String;)V" } : Jvm.MethodName) prog_24_method_2_code (2 : Nat) (Option.none : Option Jvm.ClassFile.FieldType)) ∈ lw_all := lw_g (lw_at lw_m2 234 rfl) rfl
theorem q515 : (Jvm.Cond.methodLink "java/lang/Throwable" (1 : Nat) ({ cls := "java/lang/Object", name := "<init>", desc := "()V" } : Jvm.MethodName)) ∈ lw_all := lw_g (lw_at lw_m2 235 rfl) rfl
theorem q516 : (Jvm.Cond.fieldLink "java/lang/Throwable" (13 : Nat) "java/lang/Throwable" "UNASSIGNED_STACK" "[Ljava/lang/StackTraceElement;") ∈ lw_all := lw_g (lw_at lw_m2 236 rfl) rfl
theorem q517 : (Jvm.Cond.laysStatic "java/lang/Throwable" "UNASSIGNED_STACK" "[Ljava/lang/StackTraceElement;") ∈ lw_tbl := lw_at lw_m2 237 rfl
theorem q518 : (Jvm.Cond.fieldLink "java/lang/Throwable" (20 : Nat) "java/lang/Throwable" "SUPPRESSED_SENTINEL" "Ljava/util/List;") ∈ lw_all := lw_g (lw_at lw_m2 238 rfl) rfl
theorem q519 : (Jvm.Cond.laysStatic "java/lang/Throwable" "SUPPRESSED_SENTINEL" "Ljava/util/List;") ∈ lw_tbl := lw_at lw_m2 239 rfl
theorem q520 : (Jvm.Cond.methodLink "java/lang/Throwable" (27 : Nat) ({ cls := "java/lang/Throwable", name := "fillInStackTrace", desc := "()Ljava/lang/Throwable;" } : Jvm.MethodName)) ∈ lw_all := lw_g (lw_at lw_m3 0 rfl) rfl
theorem q521 : (Jvm.Cond.instanceMethod ({ cls := "java/lang/Throwable", name := "fillInStackTrace", desc := "()Ljava/lang/Throwable;" } : Jvm.MethodName)) ∈ lw_all := lw_g (lw_at lw_m3 1 rfl) rfl
theorem q522 : (Jvm.Cond.sameMethod "java/lang/Throwable" "java/lang/Throwable" "fillInStackTrace" "()Ljava/lang/Throwable;") ∈ lw_all := lw_g (lw_at lw_m3 2 rfl) rfl
theorem q536 : (Jvm.Cond.declares ({ cls := "java/lang/Throwable", name := "fillInStackTrace", desc := "()Ljava/lang/Throwable;" } : Jvm.MethodName)) ∈ lw_tbl := lw_at lw_m3 16 rfl
theorem q540 : (Jvm.Cond.codeSync ({ cls := "java/lang/Throwable", name := "fillInStackTrace", desc := "()Ljava/lang/Throwable;" } : Jvm.MethodName) prog_24_method_18_code (1 : Nat) (Option.some (Jvm.ClassFile.FieldType.object "java/lang/Throwable"))) ∈ lw_all := lw_g (lw_at lw_m3 20 rfl) rfl
theorem q541 : (Jvm.Cond.methodLink "java/lang/Throwable" (202 : Nat) ({ cls := "java/lang/Throwable", name := "fillInStackTrace", desc := "(I)Ljava/lang/Throwable;" } : Jvm.MethodName)) ∈ lw_all := lw_g (lw_at lw_m3 21 rfl) rfl
theorem q542 : (Jvm.Cond.privateMethod ({ cls := "java/lang/Throwable", name := "fillInStackTrace", desc := "(I)Ljava/lang/Throwable;" } : Jvm.MethodName)) ∈ lw_tbl := lw_at lw_m3 22 rfl
theorem q543 : (Jvm.Cond.instanceMethod ({ cls := "java/lang/Throwable", name := "fillInStackTrace", desc := "(I)Ljava/lang/Throwable;" } : Jvm.MethodName)) ∈ lw_all := lw_g (lw_at lw_m3 23 rfl) rfl
theorem q544 : (Jvm.Cond.instantiable "java/lang/Throwable" (6 : Nat)) ∈ lw_all := lw_g (lw_at lw_m3 24 rfl) rfl
theorem q545 : (Jvm.Cond.native ({ cls := "java/lang/Throwable", name := "fillInStackTrace", desc := "(I)Ljava/lang/Throwable;" } : Jvm.MethodName)) ∈ lw_all := lw_g (lw_at lw_m3 25 rfl) rfl
theorem q546 : (Jvm.Cond.fieldLink "java/lang/Throwable" (198 : Nat) "java/lang/Throwable" "backtrace" "Ljava/lang/Object;") ∈ lw_all := lw_g (lw_at lw_m3 26 rfl) rfl
theorem q547 : (Jvm.Cond.fieldLink "java/lang/Throwable" (31 : Nat) "java/lang/Throwable" "detailMessage" "Ljava/lang/String;") ∈ lw_all := lw_g (lw_at lw_m3 27 rfl) rfl
theorem q548 : (Jvm.Cond.fieldLink "java/lang/Throwable" (7 : Nat) "java/lang/Throwable" "cause" "Ljava/lang/Throwable;") ∈ lw_all := lw_g (lw_at lw_m3 28 rfl) rfl
theorem q549 : (Jvm.Cond.fieldLink "java/lang/Throwable" (17 : Nat) "java/lang/Throwable" "stackTrace" "[Ljava/lang/StackTraceElement;") ∈ lw_all := lw_g (lw_at lw_m3 29 rfl) rfl
theorem q550 : (Jvm.Cond.fieldLink "java/lang/Throwable" (24 : Nat) "java/lang/Throwable" "suppressedExceptions" "Ljava/util/List;") ∈ lw_all := lw_g (lw_at lw_m3 30 rfl) rfl
theorem q552 : (Jvm.Cond.soleField "java/lang/Throwable" "backtrace") ∈ lw_all := lw_g (lw_at lw_m3 32 rfl) rfl
theorem q554 : (Jvm.Cond.soleField "java/lang/Throwable" "detailMessage") ∈ lw_all := lw_g (lw_at lw_m3 34 rfl) rfl
theorem q556 : (Jvm.Cond.soleField "java/lang/Throwable" "cause") ∈ lw_all := lw_g (lw_at lw_m3 36 rfl) rfl
theorem q558 : (Jvm.Cond.soleField "java/lang/Throwable" "stackTrace") ∈ lw_all := lw_g (lw_at lw_m3 38 rfl) rfl
theorem q560 : (Jvm.Cond.soleField "java/lang/Throwable" "depth") ∈ lw_all := lw_g (lw_at lw_m3 40 rfl) rfl
theorem q562 : (Jvm.Cond.soleField "java/lang/Throwable" "suppressedExceptions") ∈ lw_all := lw_g (lw_at lw_m3 42 rfl) rfl
theorem q569 : (Jvm.Cond.declares ({ cls := "java/lang/Throwable", name := "<init>", desc := "()V" } : Jvm.MethodName)) ∈ lw_tbl := lw_at lw_m3 49 rfl
theorem q570 : (Jvm.Cond.declares ({ cls := "java/lang/Throwable", name := "<init>", desc := "(Ljava/lang/String;)V" } : Jvm.MethodName)) ∈ lw_tbl := lw_at lw_m3 50 rfl
theorem q572 : (Jvm.Cond.lays "java/lang/Throwable" "java/lang/Throwable" "cause" "Ljava/lang/Throwable;") ∈ lw_all := lw_g (lw_at lw_m3 52 rfl) rfl
theorem q573 : (Jvm.Cond.lays "java/lang/Throwable" "java/lang/Throwable" "stackTrace" "[Ljava/lang/StackTraceElement;") ∈ lw_all := lw_g (lw_at lw_m3 53 rfl) rfl
theorem q574 : (Jvm.Cond.lays "java/lang/Throwable" "java/lang/Throwable" "suppressedExceptions" "Ljava/util/List;") ∈ lw_all := lw_g (lw_at lw_m3 54 rfl) rfl
theorem q575 : (Jvm.Cond.lays "java/lang/Throwable" "java/lang/Throwable" "detailMessage" "Ljava/lang/String;") ∈ lw_all := lw_g (lw_at lw_m3 55 rfl) rfl
theorem q576 : (Jvm.Cond.lays "java/lang/Throwable" "java/lang/Throwable" "backtrace" "Ljava/lang/Object;") ∈ lw_all := lw_g (lw_at lw_m3 56 rfl) rfl
theorem q577 : (Jvm.Cond.fieldLink "java/lang/Throwable" (198 : Nat) "java/lang/Throwable" "backtrace" "Ljava/lang/Object;") ∈ lw_all := lw_g (lw_at lw_m3 57 rfl) rfl
theorem q578 : (Jvm.Cond.superclass "java/lang/Throwable" "java/lang/Object") ∈ lw_all := lw_g (lw_at lw_m3 58 rfl) rfl
theorem q579 : (Jvm.Cond.instanceMethod ({ cls := "java/lang/Throwable", name := "<init>", desc := "()V" } : Jvm.MethodName)) ∈ lw_all := lw_g (lw_at lw_m3 59 rfl) rfl
theorem q580 : (Jvm.Cond.code ({ cls := "java/lang/Throwable", name := "<init>", desc := "()V" } : Jvm.MethodName) prog_24_method_1_code (1 : Nat) (Option.none : Option Jvm.ClassFile.FieldType)) ∈ lw_all := lw_g (lw_at lw_m3 60 rfl) rfl
theorem q1140 : (Jvm.Cond.sameMethod "java/lang/Throwable" "java/lang/Throwable" "fillInStackTrace" "(I)Ljava/lang/Throwable;") ∈ lw_all := lw_g (lw_at lw_m5 140 rfl) rfl
theorem in_J1 : ∀ w ∈ wsJ10, w ∈ lw_all := lw_in wsJ10 [572, 573, 574, 575, 576] (by decide +kernel) (by decide +kernel)
/-! java/lang/Exception -/
set_option maxRecDepth 100000
def RJ2 : String := "java/lang/Exception"
abbrev cJ2_init : ByteArray := prog_16_method_2_code
def yJ2_init : MethodName := ⟨RJ2, "<init>", "(Ljava/lang/String;)V"⟩
def dkwJ2_init_0 : List UInt8 := [42, 43, 183, 0, 7, 177]
abbrev dktJ2_init_0 : List UInt8 := dkwJ2_init_0 ++ []
theorem dksJ2_init_0 : cJ2_init.data.toList.drop 0 = dktJ2_init_0 := by decide +kernel
theorem dJ2_init_0 : decode cJ2_init 0 = .ok (.aload_n 0, 1) := dk_42 (dk_at dksJ2_init_0 0 rfl rfl)
theorem dJ2_init_1 : decode cJ2_init 1 = .ok (.aload_n 1, 1) := dk_43 (dk_at dksJ2_init_0 1 rfl rfl)
theorem dJ2_init_2 : decode cJ2_init 2 = .ok (.invokespecial 7, 3) := dk_183 0 7 (dk_at dksJ2_init_0 2 rfl rfl)
theorem dJ2_init_5 : decode cJ2_init 5 = .ok (.return_, 1) := dk_177 (dk_at dksJ2_init_0 5 rfl rfl)
abbrev cJ2_init_2 : ByteArray := prog_16_method_1_code
def yJ2_init_2 : MethodName := ⟨RJ2, "<init>", "()V"⟩
theorem dJ2_init_2_0 : decode cJ2_init_2 0 = .ok (.aload_n 0, 1) := by decide +kernel
theorem dJ2_init_2_1 : decode cJ2_init_2 1 = .ok (.invokespecial 1, 3) := by decide +kernel
theorem dJ2_init_2_4 : decode cJ2_init_2 4 = .ok (.return_, 1) := by decide +kernel
theorem q50 : (Jvm.Cond.initialized "java/lang/Exception") ∈ lw_all := lw_g (lw_at lw_m1 10 rfl) rfl
theorem q510 : (Jvm.Cond.instanceMethod ({ cls := "java/lang/Exception", name := "<init>", desc := "(Ljava/lang/String;)V" } : Jvm.MethodName)) ∈ lw_all := lw_g (lw_at lw_m2 230 rfl) rfl
theorem q511 : (Jvm.Cond.code ({ cls := "java/lang/Exception", name := "<init>", desc := "(Ljava/lang/String;)V" } : Jvm.MethodName) prog_16_method_2_code (2 : Nat) (Option.none : Option Jvm.ClassFile.FieldType)) ∈ lw_all := lw_g (lw_at lw_m2 231 rfl) rfl
theorem q512 : (Jvm.Cond.methodLink "java/lang/Exception" (7 : Nat) ({ cls := "java/lang/Throwable", name := "<init>", desc := "(Ljava/lang/String;)V" } : Jvm.MethodName)) ∈ lw_all := lw_g (lw_at lw_m2 232 rfl) rfl
theorem q539 : (Jvm.Cond.superclass "java/lang/Exception" "java/lang/Throwable") ∈ lw_all := lw_g (lw_at lw_m3 19 rfl) rfl
theorem q567 : (Jvm.Cond.declares ({ cls := "java/lang/Exception", name := "<init>", desc := "()V" } : Jvm.MethodName)) ∈ lw_tbl := lw_at lw_m3 47 rfl
theorem q568 : (Jvm.Cond.declares ({ cls := "java/lang/Exception", name := "<init>", desc := "(Ljava/lang/String;)V" } : Jvm.MethodName)) ∈ lw_tbl := lw_at lw_m3 48 rfl
theorem q666 : (Jvm.Cond.instanceMethod ({ cls := "java/lang/Exception", name := "<init>", desc := "()V" } : Jvm.MethodName)) ∈ lw_all := lw_g (lw_at lw_m3 146 rfl) rfl
theorem q667 : (Jvm.Cond.code ({ cls := "java/lang/Exception", name := "<init>", desc := "()V" } : Jvm.MethodName) prog_16_method_1_code (1 : Nat) (Option.none : Option Jvm.ClassFile.FieldType)) ∈ lw_all := lw_g (lw_at lw_m3 147 rfl) rfl
theorem q668 : (Jvm.Cond.methodLink "java/lang/Exception" (1 : Nat) ({ cls := "java/lang/Throwable", name := "<init>", desc := "()V" } : Jvm.MethodName)) ∈ lw_all := lw_g (lw_at lw_m3 148 rfl) rfl
/-! java/lang/RuntimeException -/
set_option maxRecDepth 100000
def RJ3 : String := "java/lang/RuntimeException"
abbrev cJ3_init : ByteArray := prog_21_method_2_code
def yJ3_init : MethodName := ⟨RJ3, "<init>", "(Ljava/lang/String;)V"⟩
def dkwJ3_init_0 : List UInt8 := [42, 43, 183, 0, 7, 177]
abbrev dktJ3_init_0 : List UInt8 := dkwJ3_init_0 ++ []
theorem dksJ3_init_0 : cJ3_init.data.toList.drop 0 = dktJ3_init_0 := by decide +kernel
theorem dJ3_init_0 : decode cJ3_init 0 = .ok (.aload_n 0, 1) := dk_42 (dk_at dksJ3_init_0 0 rfl rfl)
theorem dJ3_init_1 : decode cJ3_init 1 = .ok (.aload_n 1, 1) := dk_43 (dk_at dksJ3_init_0 1 rfl rfl)
theorem dJ3_init_2 : decode cJ3_init 2 = .ok (.invokespecial 7, 3) := dk_183 0 7 (dk_at dksJ3_init_0 2 rfl rfl)
theorem dJ3_init_5 : decode cJ3_init 5 = .ok (.return_, 1) := dk_177 (dk_at dksJ3_init_0 5 rfl rfl)
abbrev cJ3_init_2 : ByteArray := prog_21_method_1_code
def yJ3_init_2 : MethodName := ⟨RJ3, "<init>", "()V"⟩
theorem dJ3_init_2_0 : decode cJ3_init_2 0 = .ok (.aload_n 0, 1) := by decide +kernel
theorem dJ3_init_2_1 : decode cJ3_init_2 1 = .ok (.invokespecial 1, 3) := by decide +kernel
theorem dJ3_init_2_4 : decode cJ3_init_2 4 = .ok (.return_, 1) := by decide +kernel
theorem q51 : (Jvm.Cond.initialized "java/lang/RuntimeException") ∈ lw_all := lw_g (lw_at lw_m1 11 rfl) rfl
theorem q507 : (Jvm.Cond.instanceMethod ({ cls := "java/lang/RuntimeException", name := "<init>", desc := "(Ljava/lang/String;)V" } : Jvm.MethodName)) ∈ lw_all := lw_g (lw_at lw_m2 227 rfl) rfl
theorem q508 : (Jvm.Cond.code ({ cls := "java/lang/RuntimeException", name := "<init>", desc := "(Ljava/lang/String;)V" } : Jvm.MethodName) prog_21_method_2_code (2 : Nat) (Option.none : Option Jvm.ClassFile.FieldType)) ∈ lw_all := lw_g (lw_at lw_m2 228 rfl) rfl
theorem q509 : (Jvm.Cond.methodLink "java/lang/RuntimeException" (7 : Nat) ({ cls := "java/lang/Exception", name := "<init>", desc := "(Ljava/lang/String;)V" } : Jvm.MethodName)) ∈ lw_all := lw_g (lw_at lw_m2 229 rfl) rfl
theorem q535 : (Jvm.Cond.sameMethod "java/lang/RuntimeException" "java/lang/Throwable" "fillInStackTrace" "()Ljava/lang/Throwable;") ∈ lw_all := lw_g (lw_at lw_m3 15 rfl) rfl
theorem q538 : (Jvm.Cond.superclass "java/lang/RuntimeException" "java/lang/Exception") ∈ lw_all := lw_g (lw_at lw_m3 18 rfl) rfl
theorem q565 : (Jvm.Cond.declares ({ cls := "java/lang/RuntimeException", name := "<init>", desc := "()V" } : Jvm.MethodName)) ∈ lw_tbl := lw_at lw_m3 45 rfl
theorem q566 : (Jvm.Cond.declares ({ cls := "java/lang/RuntimeException", name := "<init>", desc := "(Ljava/lang/String;)V" } : Jvm.MethodName)) ∈ lw_tbl := lw_at lw_m3 46 rfl
theorem q663 : (Jvm.Cond.instanceMethod ({ cls := "java/lang/RuntimeException", name := "<init>", desc := "()V" } : Jvm.MethodName)) ∈ lw_all := lw_g (lw_at lw_m3 143 rfl) rfl
theorem q664 : (Jvm.Cond.code ({ cls := "java/lang/RuntimeException", name := "<init>", desc := "()V" } : Jvm.MethodName) prog_21_method_1_code (1 : Nat) (Option.none : Option Jvm.ClassFile.FieldType)) ∈ lw_all := lw_g (lw_at lw_m3 144 rfl) rfl
theorem q665 : (Jvm.Cond.methodLink "java/lang/RuntimeException" (1 : Nat) ({ cls := "java/lang/Exception", name := "<init>", desc := "()V" } : Jvm.MethodName)) ∈ lw_all := lw_g (lw_at lw_m3 145 rfl) rfl
theorem q683 : (Jvm.Cond.castable "java/lang/RuntimeException" "java/lang/Throwable") ∈ lw_tbl := lw_at lw_m3 163 rfl
/-! java/lang/NegativeArraySizeException -/
set_option maxRecDepth 100000
def RJ4 : String := "java/lang/NegativeArraySizeException"
def TJ4 : u_T := fun k => match k with
  | 0 => ("java/lang/Throwable", "backtrace", "Ljava/lang/Object;", false)
  | 1 => ("java/lang/Throwable", "detailMessage", "Ljava/lang/String;", false)
  | 2 => ("java/lang/Throwable", "cause", "Ljava/lang/Throwable;", false)
  | 3 => ("java/lang/Throwable", "stackTrace", "[Ljava/lang/StackTraceElement;", false)
  | 4 => ("java/lang/Throwable", "depth", "I", false)
  | _ => ("java/lang/Throwable", "suppressedExceptions", "Ljava/util/List;", false)
def tyJ4 : Nat → FieldType := fun k => match k with
  | 0 => .object "java/lang/Object"
  | 1 => .object "java/lang/String"
  | 2 => .object "java/lang/Throwable"
  | 3 => .array (.object "java/lang/StackTraceElement")
  | 4 => .int
  | _ => .object "java/util/List"
abbrev wsJ40 : List Cond := u_ws RJ4 TJ4 6
theorem nmJ4 : ∀ a, a < 6 → ∀ b, b < 6 → a ≠ b → (TJ4 a).2.1 ≠ (TJ4 b).2.1 := by decide +kernel
theorem tyJ4_ok : ∀ k, k < 6 → parseFieldDescriptor (TJ4 k).2.2.1 = some (tyJ4 k) := by decide +kernel
abbrev cJ4_init : ByteArray := prog_19_method_2_code
def yJ4_init : MethodName := ⟨RJ4, "<init>", "(Ljava/lang/String;)V"⟩
def dkwJ4_init_0 : List UInt8 := [42, 43, 183, 0, 7, 177]
abbrev dktJ4_init_0 : List UInt8 := dkwJ4_init_0 ++ []
theorem dksJ4_init_0 : cJ4_init.data.toList.drop 0 = dktJ4_init_0 := by decide +kernel
theorem dJ4_init_0 : decode cJ4_init 0 = .ok (.aload_n 0, 1) := dk_42 (dk_at dksJ4_init_0 0 rfl rfl)
theorem dJ4_init_1 : decode cJ4_init 1 = .ok (.aload_n 1, 1) := dk_43 (dk_at dksJ4_init_0 1 rfl rfl)
theorem dJ4_init_2 : decode cJ4_init 2 = .ok (.invokespecial 7, 3) := dk_183 0 7 (dk_at dksJ4_init_0 2 rfl rfl)
theorem dJ4_init_5 : decode cJ4_init 5 = .ok (.return_, 1) := dk_177 (dk_at dksJ4_init_0 5 rfl rfl)
theorem q52 : (Jvm.Cond.initialized "java/lang/NegativeArraySizeException") ∈ lw_all := lw_g (lw_at lw_m1 12 rfl) rfl
theorem q503 : (Jvm.Cond.instantiable "java/lang/NegativeArraySizeException" (6 : Nat)) ∈ lw_all := lw_g (lw_at lw_m2 223 rfl) rfl
theorem q504 : (Jvm.Cond.instanceMethod ({ cls := "java/lang/NegativeArraySizeException", name := "<init>", desc := "(Ljava/lang/String;)V" } : Jvm.MethodName)) ∈ lw_all := lw_g (lw_at lw_m2 224 rfl) rfl
theorem q505 : (Jvm.Cond.code ({ cls := "java/lang/NegativeArraySizeException", name := "<init>", desc := "(Ljava/lang/String;)V" } : Jvm.MethodName) prog_19_method_2_code (2 : Nat) (Option.none : Option Jvm.ClassFile.FieldType)) ∈ lw_all := lw_g (lw_at lw_m2 225 rfl) rfl
theorem q506 : (Jvm.Cond.methodLink "java/lang/NegativeArraySizeException" (7 : Nat) ({ cls := "java/lang/RuntimeException", name := "<init>", desc := "(Ljava/lang/String;)V" } : Jvm.MethodName)) ∈ lw_all := lw_g (lw_at lw_m2 226 rfl) rfl
theorem q525 : (Jvm.Cond.selects "java/lang/NegativeArraySizeException" ({ cls := "java/lang/Throwable", name := "fillInStackTrace", desc := "()Ljava/lang/Throwable;" } : Jvm.MethodName) ({ cls := "java/lang/Throwable", name := "fillInStackTrace", desc := "()Ljava/lang/Throwable;" } : Jvm.MethodName)) ∈ lw_all := lw_g (lw_at lw_m3 5 rfl) rfl
theorem q551 : (Jvm.Cond.lays "java/lang/NegativeArraySizeException" "java/lang/Throwable" "backtrace" "Ljava/lang/Object;") ∈ lw_all := lw_g (lw_at lw_m3 31 rfl) rfl
theorem q553 : (Jvm.Cond.lays "java/lang/NegativeArraySizeException" "java/lang/Throwable" "detailMessage" "Ljava/lang/String;") ∈ lw_all := lw_g (lw_at lw_m3 33 rfl) rfl
theorem q555 : (Jvm.Cond.lays "java/lang/NegativeArraySizeException" "java/lang/Throwable" "cause" "Ljava/lang/Throwable;") ∈ lw_all := lw_g (lw_at lw_m3 35 rfl) rfl
theorem q557 : (Jvm.Cond.lays "java/lang/NegativeArraySizeException" "java/lang/Throwable" "stackTrace" "[Ljava/lang/StackTraceElement;") ∈ lw_all := lw_g (lw_at lw_m3 37 rfl) rfl
theorem q559 : (Jvm.Cond.lays "java/lang/NegativeArraySizeException" "java/lang/Throwable" "depth" "I") ∈ lw_all := lw_g (lw_at lw_m3 39 rfl) rfl
theorem q561 : (Jvm.Cond.lays "java/lang/NegativeArraySizeException" "java/lang/Throwable" "suppressedExceptions" "Ljava/util/List;") ∈ lw_all := lw_g (lw_at lw_m3 41 rfl) rfl
theorem q563 : (Jvm.Cond.superclass "java/lang/NegativeArraySizeException" "java/lang/RuntimeException") ∈ lw_all := lw_g (lw_at lw_m3 43 rfl) rfl
theorem q564 : (Jvm.Cond.castable "java/lang/NegativeArraySizeException" "java/lang/NegativeArraySizeException") ∈ lw_tbl := lw_at lw_m3 44 rfl
theorem q571 : (Jvm.Cond.selects "java/lang/NegativeArraySizeException" ({ cls := "java/lang/Throwable", name := "fillInStackTrace", desc := "(I)Ljava/lang/Throwable;" } : Jvm.MethodName) ({ cls := "java/lang/Throwable", name := "fillInStackTrace", desc := "(I)Ljava/lang/Throwable;" } : Jvm.MethodName)) ∈ lw_all := lw_g (lw_at lw_m3 51 rfl) rfl
theorem in_J4 : ∀ w ∈ wsJ40, w ∈ lw_all := lw_in wsJ40 [551, 553, 555, 557, 559, 561] (by decide +kernel) (by decide +kernel)
/-! java/lang/String -/
set_option maxRecDepth 100000
def RJ5 : String := "java/lang/String"
def TJ5 : u_T := fun k => match k with
  | 0 => ("java/lang/String", "value", "[B", true)
  | _ => ("java/lang/String", "coder", "B", true)
def tyJ5 : Nat → FieldType := fun k => match k with
  | 0 => .array .byte
  | _ => .byte
abbrev wsJ50 : List Cond := u_ws RJ5 TJ5 2
theorem nmJ5 : ∀ a, a < 2 → ∀ b, b < 2 → a ≠ b → (TJ5 a).2.1 ≠ (TJ5 b).2.1 := by decide +kernel
theorem tyJ5_ok : ∀ k, k < 2 → parseFieldDescriptor (TJ5 k).2.2.1 = some (tyJ5 k) := by decide +kernel
theorem q53 : (Jvm.Cond.initialized "java/lang/String") ∈ lw_all := lw_g (lw_at lw_m1 13 rfl) rfl
theorem q581 : (Jvm.Cond.instantiable "java/lang/String" (4 : Nat)) ∈ lw_all := lw_g (lw_at lw_m3 61 rfl) rfl
theorem q583 : (Jvm.Cond.laysFinal "java/lang/String" "java/lang/String" "value" "[B") ∈ lw_all := lw_g (lw_at lw_m3 63 rfl) rfl
theorem q584 : (Jvm.Cond.soleField "java/lang/String" "value") ∈ lw_all := lw_g (lw_at lw_m3 64 rfl) rfl
theorem q585 : (Jvm.Cond.laysFinal "java/lang/String" "java/lang/String" "coder" "B") ∈ lw_all := lw_g (lw_at lw_m3 65 rfl) rfl
theorem q586 : (Jvm.Cond.soleField "java/lang/String" "coder") ∈ lw_all := lw_g (lw_at lw_m3 66 rfl) rfl
theorem in_J5 : ∀ w ∈ wsJ50, w ∈ lw_all := lw_in wsJ50 [583, 585] (by decide +kernel) (by decide +kernel)
/-! java/lang/NullPointerException -/
set_option maxRecDepth 100000
def RJ6 : String := "java/lang/NullPointerException"
def TJ6 : u_T := fun k => match k with
  | 0 => ("java/lang/Throwable", "backtrace", "Ljava/lang/Object;", false)
  | 1 => ("java/lang/Throwable", "detailMessage", "Ljava/lang/String;", false)
  | 2 => ("java/lang/Throwable", "cause", "Ljava/lang/Throwable;", false)
  | 3 => ("java/lang/Throwable", "stackTrace", "[Ljava/lang/StackTraceElement;", false)
  | 4 => ("java/lang/Throwable", "depth", "I", false)
  | 5 => ("java/lang/Throwable", "suppressedExceptions", "Ljava/util/List;", false)
  | 6 => ("java/lang/NullPointerException", "extendedMessageState", "I", false)
  | _ => ("java/lang/NullPointerException", "extendedMessage", "Ljava/lang/String;", false)
def tyJ6 : Nat → FieldType := fun k => match k with
  | 0 => .object "java/lang/Object"
  | 1 => .object "java/lang/String"
  | 2 => .object "java/lang/Throwable"
  | 3 => .array (.object "java/lang/StackTraceElement")
  | 4 => .int
  | 5 => .object "java/util/List"
  | 6 => .int
  | _ => .object "java/lang/String"
abbrev wsJ60 : List Cond := u_ws RJ6 TJ6 8
theorem nmJ6 : ∀ a, a < 8 → ∀ b, b < 8 → a ≠ b → (TJ6 a).2.1 ≠ (TJ6 b).2.1 := by decide +kernel
theorem tyJ6_ok : ∀ k, k < 8 → parseFieldDescriptor (TJ6 k).2.2.1 = some (tyJ6 k) := by decide +kernel
abbrev cJ6_init : ByteArray := prog_20_method_1_code
def yJ6_init : MethodName := ⟨RJ6, "<init>", "()V"⟩
theorem dJ6_init_0 : decode cJ6_init 0 = .ok (.aload_n 0, 1) := by decide +kernel
theorem dJ6_init_1 : decode cJ6_init 1 = .ok (.invokespecial 1, 3) := by decide +kernel
theorem dJ6_init_4 : decode cJ6_init 4 = .ok (.return_, 1) := by decide +kernel
theorem q59 : (Jvm.Cond.initialized "java/lang/NullPointerException") ∈ lw_all := lw_g (lw_at lw_m1 19 rfl) rfl
theorem q526 : (Jvm.Cond.selects "java/lang/NullPointerException" ({ cls := "java/lang/Throwable", name := "fillInStackTrace", desc := "()Ljava/lang/Throwable;" } : Jvm.MethodName) ({ cls := "java/lang/NullPointerException", name := "fillInStackTrace", desc := "()Ljava/lang/Throwable;" } : Jvm.MethodName)) ∈ lw_all := lw_g (lw_at lw_m3 6 rfl) rfl
theorem q527 : (Jvm.Cond.instanceMethod ({ cls := "java/lang/NullPointerException", name := "fillInStackTrace", desc := "()Ljava/lang/Throwable;" } : Jvm.MethodName)) ∈ lw_all := lw_g (lw_at lw_m3 7 rfl) rfl
theorem q528 : (Jvm.Cond.codeSync ({ cls := "java/lang/NullPointerException", name := "fillInStackTrace", desc := "()Ljava/lang/Throwable;" } : Jvm.MethodName) prog_20_method_3_code (1 : Nat) (Option.some (Jvm.ClassFile.FieldType.object "java/lang/Throwable"))) ∈ lw_all := lw_g (lw_at lw_m3 8 rfl) rfl
theorem q529 : (Jvm.Cond.methodLink "java/lang/NullPointerException" (16 : Nat) ({ cls := "java/lang/NullPointerException", name := "getExtendedNPEMessage", desc := "()Ljava/lang/String;" } : Jvm.MethodName)) ∈ lw_all := lw_g (lw_at lw_m3 9 rfl) rfl
theorem q530 : (Jvm.Cond.privateMethod ({ cls := "java/lang/NullPointerException", name := "getExtendedNPEMessage", desc := "()Ljava/lang/String;" } : Jvm.MethodName)) ∈ lw_tbl := lw_at lw_m3 10 rfl
theorem q531 : (Jvm.Cond.instanceMethod ({ cls := "java/lang/NullPointerException", name := "getExtendedNPEMessage", desc := "()Ljava/lang/String;" } : Jvm.MethodName)) ∈ lw_all := lw_g (lw_at lw_m3 11 rfl) rfl
theorem q532 : (Jvm.Cond.instantiable "java/lang/NullPointerException" (8 : Nat)) ∈ lw_all := lw_g (lw_at lw_m3 12 rfl) rfl
theorem q533 : (Jvm.Cond.native ({ cls := "java/lang/NullPointerException", name := "getExtendedNPEMessage", desc := "()Ljava/lang/String;" } : Jvm.MethodName)) ∈ lw_all := lw_g (lw_at lw_m3 13 rfl) rfl
theorem q534 : (Jvm.Cond.methodLink "java/lang/NullPointerException" (24 : Nat) ({ cls := "java/lang/RuntimeException", name := "fillInStackTrace", desc := "()Ljava/lang/Throwable;" } : Jvm.MethodName)) ∈ lw_all := lw_g (lw_at lw_m3 14 rfl) rfl
theorem q537 : (Jvm.Cond.superclass "java/lang/NullPointerException" "java/lang/RuntimeException") ∈ lw_all := lw_g (lw_at lw_m3 17 rfl) rfl
theorem q660 : (Jvm.Cond.instanceMethod ({ cls := "java/lang/NullPointerException", name := "<init>", desc := "()V" } : Jvm.MethodName)) ∈ lw_all := lw_g (lw_at lw_m3 140 rfl) rfl
theorem q661 : (Jvm.Cond.code ({ cls := "java/lang/NullPointerException", name := "<init>", desc := "()V" } : Jvm.MethodName) prog_20_method_1_code (1 : Nat) (Option.none : Option Jvm.ClassFile.FieldType)) ∈ lw_all := lw_g (lw_at lw_m3 141 rfl) rfl
theorem q662 : (Jvm.Cond.methodLink "java/lang/NullPointerException" (1 : Nat) ({ cls := "java/lang/RuntimeException", name := "<init>", desc := "()V" } : Jvm.MethodName)) ∈ lw_all := lw_g (lw_at lw_m3 142 rfl) rfl
theorem q669 : (Jvm.Cond.fieldLink "java/lang/NullPointerException" (10 : Nat) "java/lang/NullPointerException" "extendedMessageState" "I") ∈ lw_all := lw_g (lw_at lw_m3 149 rfl) rfl
theorem q670 : (Jvm.Cond.fieldLink "java/lang/NullPointerException" (20 : Nat) "java/lang/NullPointerException" "extendedMessage" "Ljava/lang/String;") ∈ lw_all := lw_g (lw_at lw_m3 150 rfl) rfl
theorem q671 : (Jvm.Cond.lays "java/lang/NullPointerException" "java/lang/NullPointerException" "extendedMessageState" "I") ∈ lw_all := lw_g (lw_at lw_m3 151 rfl) rfl
theorem q672 : (Jvm.Cond.soleField "java/lang/NullPointerException" "extendedMessageState") ∈ lw_all := lw_g (lw_at lw_m3 152 rfl) rfl
theorem q673 : (Jvm.Cond.lays "java/lang/NullPointerException" "java/lang/NullPointerException" "extendedMessage" "Ljava/lang/String;") ∈ lw_all := lw_g (lw_at lw_m3 153 rfl) rfl
theorem q674 : (Jvm.Cond.soleField "java/lang/NullPointerException" "extendedMessage") ∈ lw_all := lw_g (lw_at lw_m3 154 rfl) rfl
theorem q675 : (Jvm.Cond.lays "java/lang/NullPointerException" "java/lang/Throwable" "backtrace" "Ljava/lang/Object;") ∈ lw_all := lw_g (lw_at lw_m3 155 rfl) rfl
theorem q676 : (Jvm.Cond.lays "java/lang/NullPointerException" "java/lang/Throwable" "detailMessage" "Ljava/lang/String;") ∈ lw_all := lw_g (lw_at lw_m3 156 rfl) rfl
theorem q677 : (Jvm.Cond.lays "java/lang/NullPointerException" "java/lang/Throwable" "cause" "Ljava/lang/Throwable;") ∈ lw_all := lw_g (lw_at lw_m3 157 rfl) rfl
theorem q678 : (Jvm.Cond.lays "java/lang/NullPointerException" "java/lang/Throwable" "stackTrace" "[Ljava/lang/StackTraceElement;") ∈ lw_all := lw_g (lw_at lw_m3 158 rfl) rfl
theorem q679 : (Jvm.Cond.lays "java/lang/NullPointerException" "java/lang/Throwable" "depth" "I") ∈ lw_all := lw_g (lw_at lw_m3 159 rfl) rfl
theorem q680 : (Jvm.Cond.lays "java/lang/NullPointerException" "java/lang/Throwable" "suppressedExceptions" "Ljava/util/List;") ∈ lw_all := lw_g (lw_at lw_m3 160 rfl) rfl
theorem q681 : (Jvm.Cond.castable "java/lang/NullPointerException" "java/lang/NullPointerException") ∈ lw_tbl := lw_at lw_m3 161 rfl
theorem q682 : (Jvm.Cond.selects "java/lang/NullPointerException" ({ cls := "java/lang/Throwable", name := "fillInStackTrace", desc := "(I)Ljava/lang/Throwable;" } : Jvm.MethodName) ({ cls := "java/lang/Throwable", name := "fillInStackTrace", desc := "(I)Ljava/lang/Throwable;" } : Jvm.MethodName)) ∈ lw_all := lw_g (lw_at lw_m3 162 rfl) rfl
theorem in_J6 : ∀ w ∈ wsJ60, w ∈ lw_all := lw_in wsJ60 [675, 676, 677, 678, 679, 680, 671, 673] (by decide +kernel) (by decide +kernel)
/-! java/lang/IndexOutOfBoundsException -/
set_option maxRecDepth 100000
def RJ7 : String := "java/lang/IndexOutOfBoundsException"
abbrev cJ7_init : ByteArray := prog_17_method_2_code
def yJ7_init : MethodName := ⟨RJ7, "<init>", "(Ljava/lang/String;)V"⟩
def dkwJ7_init_0 : List UInt8 := [42, 43, 183, 0, 7, 177]
abbrev dktJ7_init_0 : List UInt8 := dkwJ7_init_0 ++ []
theorem dksJ7_init_0 : cJ7_init.data.toList.drop 0 = dktJ7_init_0 := by decide +kernel
theorem dJ7_init_0 : decode cJ7_init 0 = .ok (.aload_n 0, 1) := dk_42 (dk_at dksJ7_init_0 0 rfl rfl)
theorem dJ7_init_1 : decode cJ7_init 1 = .ok (.aload_n 1, 1) := dk_43 (dk_at dksJ7_init_0 1 rfl rfl)
theorem dJ7_init_2 : decode cJ7_init 2 = .ok (.invokespecial 7, 3) := dk_183 0 7 (dk_at dksJ7_init_0 2 rfl rfl)
theorem dJ7_init_5 : decode cJ7_init 5 = .ok (.return_, 1) := dk_177 (dk_at dksJ7_init_0 5 rfl rfl)
theorem q60 : (Jvm.Cond.initialized "java/lang/IndexOutOfBoundsException") ∈ lw_all := lw_g (lw_at lw_m1 20 rfl) rfl
theorem q689 : (Jvm.Cond.instanceMethod ({ cls := "java/lang/IndexOutOfBoundsException", name := "<init>", desc := "(Ljava/lang/String;)V" } : Jvm.MethodName)) ∈ lw_all := lw_g (lw_at lw_m3 169 rfl) rfl
theorem q690 : (Jvm.Cond.code ({ cls := "java/lang/IndexOutOfBoundsException", name := "<init>", desc := "(Ljava/lang/String;)V" } : Jvm.MethodName) prog_17_method_2_code (2 : Nat) (Option.none : Option Jvm.ClassFile.FieldType)) ∈ lw_all := lw_g (lw_at lw_m3 170 rfl) rfl
theorem q691 : (Jvm.Cond.methodLink "java/lang/IndexOutOfBoundsException" (7 : Nat) ({ cls := "java/lang/RuntimeException", name := "<init>", desc := "(Ljava/lang/String;)V" } : Jvm.MethodName)) ∈ lw_all := lw_g (lw_at lw_m3 171 rfl) rfl
theorem q700 : (Jvm.Cond.declares ({ cls := "java/lang/IndexOutOfBoundsException", name := "<init>", desc := "()V" } : Jvm.MethodName)) ∈ lw_tbl := lw_at lw_m3 180 rfl
theorem q701 : (Jvm.Cond.declares ({ cls := "java/lang/IndexOutOfBoundsException", name := "<init>", desc := "(Ljava/lang/String;)V" } : Jvm.MethodName)) ∈ lw_tbl := lw_at lw_m3 181 rfl
/-! java/lang/ArrayIndexOutOfBoundsException -/
set_option maxRecDepth 100000
def RJ8 : String := "java/lang/ArrayIndexOutOfBoundsException"
def TJ8 : u_T := fun k => match k with
  | 0 => ("java/lang/Throwable", "backtrace", "Ljava/lang/Object;", false)
  | 1 => ("java/lang/Throwable", "detailMessage", "Ljava/lang/String;", false)
  | 2 => ("java/lang/Throwable", "cause", "Ljava/lang/Throwable;", false)
  | 3 => ("java/lang/Throwable", "stackTrace", "[Ljava/lang/StackTraceElement;", false)
  | 4 => ("java/lang/Throwable", "depth", "I", false)
  | _ => ("java/lang/Throwable", "suppressedExceptions", "Ljava/util/List;", false)
def tyJ8 : Nat → FieldType := fun k => match k with
  | 0 => .object "java/lang/Object"
  | 1 => .object "java/lang/String"
  | 2 => .object "java/lang/Throwable"
  | 3 => .array (.object "java/lang/StackTraceElement")
  | 4 => .int
  | _ => .object "java/util/List"
abbrev wsJ80 : List Cond := u_ws RJ8 TJ8 6
theorem nmJ8 : ∀ a, a < 6 → ∀ b, b < 6 → a ≠ b → (TJ8 a).2.1 ≠ (TJ8 b).2.1 := by decide +kernel
theorem tyJ8_ok : ∀ k, k < 6 → parseFieldDescriptor (TJ8 k).2.2.1 = some (tyJ8 k) := by decide +kernel
abbrev cJ8_init : ByteArray := prog_14_method_2_code
def yJ8_init : MethodName := ⟨RJ8, "<init>", "(Ljava/lang/String;)V"⟩
def dkwJ8_init_0 : List UInt8 := [42, 43, 183, 0, 7, 177]
abbrev dktJ8_init_0 : List UInt8 := dkwJ8_init_0 ++ []
theorem dksJ8_init_0 : cJ8_init.data.toList.drop 0 = dktJ8_init_0 := by decide +kernel
theorem dJ8_init_0 : decode cJ8_init 0 = .ok (.aload_n 0, 1) := dk_42 (dk_at dksJ8_init_0 0 rfl rfl)
theorem dJ8_init_1 : decode cJ8_init 1 = .ok (.aload_n 1, 1) := dk_43 (dk_at dksJ8_init_0 1 rfl rfl)
theorem dJ8_init_2 : decode cJ8_init 2 = .ok (.invokespecial 7, 3) := dk_183 0 7 (dk_at dksJ8_init_0 2 rfl rfl)
theorem dJ8_init_5 : decode cJ8_init 5 = .ok (.return_, 1) := dk_177 (dk_at dksJ8_init_0 5 rfl rfl)
theorem q61 : (Jvm.Cond.initialized "java/lang/ArrayIndexOutOfBoundsException") ∈ lw_all := lw_g (lw_at lw_m1 21 rfl) rfl
theorem q523 : (Jvm.Cond.selects "java/lang/ArrayIndexOutOfBoundsException" ({ cls := "java/lang/Throwable", name := "fillInStackTrace", desc := "()Ljava/lang/Throwable;" } : Jvm.MethodName) ({ cls := "java/lang/Throwable", name := "fillInStackTrace", desc := "()Ljava/lang/Throwable;" } : Jvm.MethodName)) ∈ lw_all := lw_g (lw_at lw_m3 3 rfl) rfl
theorem q685 : (Jvm.Cond.instantiable "java/lang/ArrayIndexOutOfBoundsException" (6 : Nat)) ∈ lw_all := lw_g (lw_at lw_m3 165 rfl) rfl
theorem q686 : (Jvm.Cond.instanceMethod ({ cls := "java/lang/ArrayIndexOutOfBoundsException", name := "<init>", desc := "(Ljava/lang/String;)V" } : Jvm.MethodName)) ∈ lw_all := lw_g (lw_at lw_m3 166 rfl) rfl
theorem q687 : (Jvm.Cond.code ({ cls := "java/lang/ArrayIndexOutOfBoundsException", name := "<init>", desc := "(Ljava/lang/String;)V" } : Jvm.MethodName) prog_14_method_2_code (2 : Nat) (Option.none : Option Jvm.ClassFile.FieldType)) ∈ lw_all := lw_g (lw_at lw_m3 167 rfl) rfl
theorem q688 : (Jvm.Cond.methodLink "java/lang/ArrayIndexOutOfBoundsException" (7 : Nat) ({ cls := "java/lang/IndexOutOfBoundsException", name := "<init>", desc := "(Ljava/lang/String;)V" } : Jvm.MethodName)) ∈ lw_all := lw_g (lw_at lw_m3 168 rfl) rfl
theorem q692 : (Jvm.Cond.lays "java/lang/ArrayIndexOutOfBoundsException" "java/lang/Throwable" "backtrace" "Ljava/lang/Object;") ∈ lw_all := lw_g (lw_at lw_m3 172 rfl) rfl
theorem q693 : (Jvm.Cond.lays "java/lang/ArrayIndexOutOfBoundsException" "java/lang/Throwable" "detailMessage" "Ljava/lang/String;") ∈ lw_all := lw_g (lw_at lw_m3 173 rfl) rfl
theorem q694 : (Jvm.Cond.lays "java/lang/ArrayIndexOutOfBoundsException" "java/lang/Throwable" "cause" "Ljava/lang/Throwable;") ∈ lw_all := lw_g (lw_at lw_m3 174 rfl) rfl
theorem q695 : (Jvm.Cond.lays "java/lang/ArrayIndexOutOfBoundsException" "java/lang/Throwable" "stackTrace" "[Ljava/lang/StackTraceElement;") ∈ lw_all := lw_g (lw_at lw_m3 175 rfl) rfl
theorem q696 : (Jvm.Cond.lays "java/lang/ArrayIndexOutOfBoundsException" "java/lang/Throwable" "depth" "I") ∈ lw_all := lw_g (lw_at lw_m3 176 rfl) rfl
theorem q697 : (Jvm.Cond.lays "java/lang/ArrayIndexOutOfBoundsException" "java/lang/Throwable" "suppressedExceptions" "Ljava/util/List;") ∈ lw_all := lw_g (lw_at lw_m3 177 rfl) rfl
theorem q698 : (Jvm.Cond.superclass "java/lang/ArrayIndexOutOfBoundsException" "java/lang/IndexOutOfBoundsException") ∈ lw_all := lw_g (lw_at lw_m3 178 rfl) rfl
theorem q699 : (Jvm.Cond.castable "java/lang/ArrayIndexOutOfBoundsException" "java/lang/ArrayIndexOutOfBoundsException") ∈ lw_tbl := lw_at lw_m3 179 rfl
theorem q702 : (Jvm.Cond.selects "java/lang/ArrayIndexOutOfBoundsException" ({ cls := "java/lang/Throwable", name := "fillInStackTrace", desc := "(I)Ljava/lang/Throwable;" } : Jvm.MethodName) ({ cls := "java/lang/Throwable", name := "fillInStackTrace", desc := "(I)Ljava/lang/Throwable;" } : Jvm.MethodName)) ∈ lw_all := lw_g (lw_at lw_m3 182 rfl) rfl
theorem in_J8 : ∀ w ∈ wsJ80, w ∈ lw_all := lw_in wsJ80 [692, 693, 694, 695, 696, 697] (by decide +kernel) (by decide +kernel)
/-! java/lang/ClassCastException -/
set_option maxRecDepth 100000
def RJ9 : String := "java/lang/ClassCastException"
def TJ9 : u_T := fun k => match k with
  | 0 => ("java/lang/Throwable", "backtrace", "Ljava/lang/Object;", false)
  | 1 => ("java/lang/Throwable", "detailMessage", "Ljava/lang/String;", false)
  | 2 => ("java/lang/Throwable", "cause", "Ljava/lang/Throwable;", false)
  | 3 => ("java/lang/Throwable", "stackTrace", "[Ljava/lang/StackTraceElement;", false)
  | 4 => ("java/lang/Throwable", "depth", "I", false)
  | _ => ("java/lang/Throwable", "suppressedExceptions", "Ljava/util/List;", false)
def tyJ9 : Nat → FieldType := fun k => match k with
  | 0 => .object "java/lang/Object"
  | 1 => .object "java/lang/String"
  | 2 => .object "java/lang/Throwable"
  | 3 => .array (.object "java/lang/StackTraceElement")
  | 4 => .int
  | _ => .object "java/util/List"
abbrev wsJ90 : List Cond := u_ws RJ9 TJ9 6
theorem nmJ9 : ∀ a, a < 6 → ∀ b, b < 6 → a ≠ b → (TJ9 a).2.1 ≠ (TJ9 b).2.1 := by decide +kernel
theorem tyJ9_ok : ∀ k, k < 6 → parseFieldDescriptor (TJ9 k).2.2.1 = some (tyJ9 k) := by decide +kernel
abbrev cJ9_init : ByteArray := prog_15_method_2_code
def yJ9_init : MethodName := ⟨RJ9, "<init>", "(Ljava/lang/String;)V"⟩
def dkwJ9_init_0 : List UInt8 := [42, 43, 183, 0, 7, 177]
abbrev dktJ9_init_0 : List UInt8 := dkwJ9_init_0 ++ []
theorem dksJ9_init_0 : cJ9_init.data.toList.drop 0 = dktJ9_init_0 := by decide +kernel
theorem dJ9_init_0 : decode cJ9_init 0 = .ok (.aload_n 0, 1) := dk_42 (dk_at dksJ9_init_0 0 rfl rfl)
theorem dJ9_init_1 : decode cJ9_init 1 = .ok (.aload_n 1, 1) := dk_43 (dk_at dksJ9_init_0 1 rfl rfl)
theorem dJ9_init_2 : decode cJ9_init 2 = .ok (.invokespecial 7, 3) := dk_183 0 7 (dk_at dksJ9_init_0 2 rfl rfl)
theorem dJ9_init_5 : decode cJ9_init 5 = .ok (.return_, 1) := dk_177 (dk_at dksJ9_init_0 5 rfl rfl)
theorem q62 : (Jvm.Cond.initialized "java/lang/ClassCastException") ∈ lw_all := lw_g (lw_at lw_m1 22 rfl) rfl
theorem q524 : (Jvm.Cond.selects "java/lang/ClassCastException" ({ cls := "java/lang/Throwable", name := "fillInStackTrace", desc := "()Ljava/lang/Throwable;" } : Jvm.MethodName) ({ cls := "java/lang/Throwable", name := "fillInStackTrace", desc := "()Ljava/lang/Throwable;" } : Jvm.MethodName)) ∈ lw_all := lw_g (lw_at lw_m3 4 rfl) rfl
theorem q725 : (Jvm.Cond.instantiable "java/lang/ClassCastException" (6 : Nat)) ∈ lw_all := lw_g (lw_at lw_m3 205 rfl) rfl
theorem q726 : (Jvm.Cond.instanceMethod ({ cls := "java/lang/ClassCastException", name := "<init>", desc := "(Ljava/lang/String;)V" } : Jvm.MethodName)) ∈ lw_all := lw_g (lw_at lw_m3 206 rfl) rfl
theorem q727 : (Jvm.Cond.code ({ cls := "java/lang/ClassCastException", name := "<init>", desc := "(Ljava/lang/String;)V" } : Jvm.MethodName) prog_15_method_2_code (2 : Nat) (Option.none : Option Jvm.ClassFile.FieldType)) ∈ lw_all := lw_g (lw_at lw_m3 207 rfl) rfl
theorem q728 : (Jvm.Cond.methodLink "java/lang/ClassCastException" (7 : Nat) ({ cls := "java/lang/RuntimeException", name := "<init>", desc := "(Ljava/lang/String;)V" } : Jvm.MethodName)) ∈ lw_all := lw_g (lw_at lw_m3 208 rfl) rfl
theorem q729 : (Jvm.Cond.lays "java/lang/ClassCastException" "java/lang/Throwable" "backtrace" "Ljava/lang/Object;") ∈ lw_all := lw_g (lw_at lw_m3 209 rfl) rfl
theorem q730 : (Jvm.Cond.lays "java/lang/ClassCastException" "java/lang/Throwable" "detailMessage" "Ljava/lang/String;") ∈ lw_all := lw_g (lw_at lw_m3 210 rfl) rfl
theorem q731 : (Jvm.Cond.lays "java/lang/ClassCastException" "java/lang/Throwable" "cause" "Ljava/lang/Throwable;") ∈ lw_all := lw_g (lw_at lw_m3 211 rfl) rfl
theorem q732 : (Jvm.Cond.lays "java/lang/ClassCastException" "java/lang/Throwable" "stackTrace" "[Ljava/lang/StackTraceElement;") ∈ lw_all := lw_g (lw_at lw_m3 212 rfl) rfl
theorem q733 : (Jvm.Cond.lays "java/lang/ClassCastException" "java/lang/Throwable" "depth" "I") ∈ lw_all := lw_g (lw_at lw_m3 213 rfl) rfl
theorem q734 : (Jvm.Cond.lays "java/lang/ClassCastException" "java/lang/Throwable" "suppressedExceptions" "Ljava/util/List;") ∈ lw_all := lw_g (lw_at lw_m3 214 rfl) rfl
theorem q735 : (Jvm.Cond.superclass "java/lang/ClassCastException" "java/lang/RuntimeException") ∈ lw_all := lw_g (lw_at lw_m3 215 rfl) rfl
theorem q736 : (Jvm.Cond.castable "java/lang/ClassCastException" "java/lang/ClassCastException") ∈ lw_tbl := lw_at lw_m3 216 rfl
theorem q737 : (Jvm.Cond.selects "java/lang/ClassCastException" ({ cls := "java/lang/Throwable", name := "fillInStackTrace", desc := "(I)Ljava/lang/Throwable;" } : Jvm.MethodName) ({ cls := "java/lang/Throwable", name := "fillInStackTrace", desc := "(I)Ljava/lang/Throwable;" } : Jvm.MethodName)) ∈ lw_all := lw_g (lw_at lw_m3 217 rfl) rfl
theorem in_J9 : ∀ w ∈ wsJ90, w ∈ lw_all := lw_in wsJ90 [729, 730, 731, 732, 733, 734] (by decide +kernel) (by decide +kernel)
/-! LadderCalls$Near -/
set_option maxRecDepth 100000
def RX1 : String := "LadderCalls$Near"
def TX1 : u_T := fun k => match k with
  | _ => ("LadderCalls$Near", "this$0", "LLadderCalls;", true)
def tyX1 : Nat → FieldType := fun k => match k with
  | _ => .object "LadderCalls"
abbrev wsX10 : List Cond := u_ws RX1 TX1 1
theorem nmX1 : ∀ a, a < 1 → ∀ b, b < 1 → a ≠ b → (TX1 a).2.1 ≠ (TX1 b).2.1 := by decide +kernel
theorem tyX1_ok : ∀ k, k < 1 → parseFieldDescriptor (TX1 k).2.2.1 = some (tyX1 k) := by decide +kernel
abbrev cX1_init : ByteArray := prog_8_method_1_code
def yX1_init : MethodName := ⟨RX1, "<init>", "(LLadderCalls;)V"⟩
def dkwX1_init_0 : List UInt8 := [42, 43, 181, 0, 1, 42, 183, 0, 7, 177]
abbrev dktX1_init_0 : List UInt8 := dkwX1_init_0 ++ []
theorem dksX1_init_0 : cX1_init.data.toList.drop 0 = dktX1_init_0 := by decide +kernel
theorem dX1_init_0 : decode cX1_init 0 = .ok (.aload_n 0, 1) := dk_42 (dk_at dksX1_init_0 0 rfl rfl)
theorem dX1_init_1 : decode cX1_init 1 = .ok (.aload_n 1, 1) := dk_43 (dk_at dksX1_init_0 1 rfl rfl)
theorem dX1_init_2 : decode cX1_init 2 = .ok (.putfield 1, 3) := dk_181 0 1 (dk_at dksX1_init_0 2 rfl rfl)
theorem dX1_init_5 : decode cX1_init 5 = .ok (.aload_n 0, 1) := dk_42 (dk_at dksX1_init_0 5 rfl rfl)
theorem dX1_init_6 : decode cX1_init 6 = .ok (.invokespecial 7, 3) := dk_183 0 7 (dk_at dksX1_init_0 6 rfl rfl)
theorem dX1_init_9 : decode cX1_init 9 = .ok (.return_, 1) := dk_177 (dk_at dksX1_init_0 9 rfl rfl)
abbrev cX1_kind : ByteArray := prog_8_method_2_code
def yX1_kind : MethodName := ⟨RX1, "kind", "()I"⟩
theorem dX1_kind_0 : decode cX1_kind 0 = .ok (.iconst 0, 1) := by decide +kernel
theorem dX1_kind_1 : decode cX1_kind 1 = .ok (.ireturn, 1) := by decide +kernel
abbrev cX1_nearest : ByteArray := prog_8_method_4_code
def yX1_nearest : MethodName := ⟨RX1, "nearest", "(I)I"⟩
def dkwX1_nearest_0 : List UInt8 := [42, 180, 0, 1, 89, 180, 0, 29, 10, 97, 181, 0, 29, 42, 27, 1, 182, 0, 33, 172]
abbrev dktX1_nearest_0 : List UInt8 := dkwX1_nearest_0 ++ []
theorem dksX1_nearest_0 : cX1_nearest.data.toList.drop 0 = dktX1_nearest_0 := by decide +kernel
theorem dX1_nearest_0 : decode cX1_nearest 0 = .ok (.aload_n 0, 1) := dk_42 (dk_at dksX1_nearest_0 0 rfl rfl)
theorem dX1_nearest_1 : decode cX1_nearest 1 = .ok (.getfield 1, 3) := dk_180 0 1 (dk_at dksX1_nearest_0 1 rfl rfl)
theorem dX1_nearest_4 : decode cX1_nearest 4 = .ok (.dup, 1) := dk_89 (dk_at dksX1_nearest_0 4 rfl rfl)
theorem dX1_nearest_5 : decode cX1_nearest 5 = .ok (.getfield 29, 3) := dk_180 0 29 (dk_at dksX1_nearest_0 5 rfl rfl)
theorem dX1_nearest_8 : decode cX1_nearest 8 = .ok (.lconst 1, 1) := dk_10 (dk_at dksX1_nearest_0 8 rfl rfl)
theorem dX1_nearest_9 : decode cX1_nearest 9 = .ok (.ladd, 1) := dk_97 (dk_at dksX1_nearest_0 9 rfl rfl)
theorem dX1_nearest_10 : decode cX1_nearest 10 = .ok (.putfield 29, 3) := dk_181 0 29 (dk_at dksX1_nearest_0 10 rfl rfl)
theorem dX1_nearest_13 : decode cX1_nearest 13 = .ok (.aload_n 0, 1) := dk_42 (dk_at dksX1_nearest_0 13 rfl rfl)
theorem dX1_nearest_14 : decode cX1_nearest 14 = .ok (.iload_n 1, 1) := dk_27 (dk_at dksX1_nearest_0 14 rfl rfl)
theorem dX1_nearest_15 : decode cX1_nearest 15 = .ok (.aconst_null, 1) := dk_1 (dk_at dksX1_nearest_0 15 rfl rfl)
theorem dX1_nearest_16 : decode cX1_nearest 16 = .ok (.invokevirtual 33, 3) := dk_182 0 33 (dk_at dksX1_nearest_0 16 rfl rfl)
theorem dX1_nearest_19 : decode cX1_nearest 19 = .ok (.ireturn, 1) := dk_172 (dk_at dksX1_nearest_0 19 rfl rfl)
abbrev cX1_least : ByteArray := prog_8_method_3_code
def yX1_least : MethodName := ⟨RX1, "least", "(I[I)I"⟩
def dkwX1_least_4 : List UInt8 := [21, 4, 167, 0, 4, 29, 62, 132, 4, 1, 167, 255, 159, 29, 172]
abbrev dktX1_least_4 : List UInt8 := dkwX1_least_4 ++ []
def dkwX1_least_3 : List UInt8 := [182, 0, 26, 44, 199, 0, 7, 3, 167, 0, 6, 44, 29, 46, 96, 54, 6, 21, 5, 21, 6, 162, 0, 8]
abbrev dktX1_least_3 : List UInt8 := dkwX1_least_3 ++ dktX1_least_4
def dkwX1_least_2 : List UInt8 := [21, 4, 46, 96, 54, 5, 42, 180, 0, 1, 42, 180, 0, 1, 180, 0, 19, 29, 184, 0, 22, 27]
abbrev dktX1_least_2 : List UInt8 := dkwX1_least_2 ++ dktX1_least_3
def dkwX1_least_1 : List UInt8 := [180, 0, 1, 180, 0, 19, 21, 4, 184, 0, 22, 27, 182, 0, 26, 44, 199, 0, 7, 3, 167, 0, 7, 44]
abbrev dktX1_least_1 : List UInt8 := dkwX1_least_1 ++ dktX1_least_2
def dkwX1_least_0 : List UInt8 := [3, 62, 4, 54, 4, 21, 4, 42, 180, 0, 1, 180, 0, 13, 162, 0, 91, 42, 180, 0, 1, 42]
abbrev dktX1_least_0 : List UInt8 := dkwX1_least_0 ++ dktX1_least_1
theorem dksX1_least_0 : cX1_least.data.toList.drop 0 = dktX1_least_0 := by decide +kernel
theorem dksX1_least_1 : cX1_least.data.toList.drop 22 = dktX1_least_1 := dk_seg dksX1_least_0 22 rfl rfl
theorem dksX1_least_2 : cX1_least.data.toList.drop 46 = dktX1_least_2 := dk_seg dksX1_least_1 24 rfl rfl
theorem dksX1_least_3 : cX1_least.data.toList.drop 68 = dktX1_least_3 := dk_seg dksX1_least_2 22 rfl rfl
theorem dksX1_least_4 : cX1_least.data.toList.drop 92 = dktX1_least_4 := dk_seg dksX1_least_3 24 rfl rfl
theorem dX1_least_0 : decode cX1_least 0 = .ok (.iconst 0, 1) := dk_3 (dk_at dksX1_least_0 0 rfl rfl)
theorem dX1_least_1 : decode cX1_least 1 = .ok (.istore_n 3, 1) := dk_62 (dk_at dksX1_least_0 1 rfl rfl)
theorem dX1_least_2 : decode cX1_least 2 = .ok (.iconst 1, 1) := dk_4 (dk_at dksX1_least_0 2 rfl rfl)
theorem dX1_least_3 : decode cX1_least 3 = .ok (.istore 4, 2) := dk_54 4 (dk_at dksX1_least_0 3 rfl rfl)
theorem dX1_least_5 : decode cX1_least 5 = .ok (.iload 4, 2) := dk_21 4 (dk_at dksX1_least_0 5 rfl rfl)
theorem dX1_least_7 : decode cX1_least 7 = .ok (.aload_n 0, 1) := dk_42 (dk_at dksX1_least_0 7 rfl rfl)
theorem dX1_least_8 : decode cX1_least 8 = .ok (.getfield 1, 3) := dk_180 0 1 (dk_at dksX1_least_0 8 rfl rfl)
theorem dX1_least_11 : decode cX1_least 11 = .ok (.getfield 13, 3) := dk_180 0 13 (dk_at dksX1_least_0 11 rfl rfl)
theorem dX1_least_14 : decode cX1_least 14 = .ok (.if_icmp .ge 91, 3) := dk_162 0 91 (dk_at dksX1_least_0 14 rfl rfl)
theorem dX1_least_17 : decode cX1_least 17 = .ok (.aload_n 0, 1) := dk_42 (dk_at dksX1_least_0 17 rfl rfl)
theorem dX1_least_18 : decode cX1_least 18 = .ok (.getfield 1, 3) := dk_180 0 1 (dk_at dksX1_least_0 18 rfl rfl)
theorem dX1_least_21 : decode cX1_least 21 = .ok (.aload_n 0, 1) := dk_42 (dk_at dksX1_least_0 21 rfl rfl)
theorem dX1_least_22 : decode cX1_least 22 = .ok (.getfield 1, 3) := dk_180 0 1 (dk_at dksX1_least_1 0 rfl rfl)
theorem dX1_least_25 : decode cX1_least 25 = .ok (.getfield 19, 3) := dk_180 0 19 (dk_at dksX1_least_1 3 rfl rfl)
theorem dX1_least_28 : decode cX1_least 28 = .ok (.iload 4, 2) := dk_21 4 (dk_at dksX1_least_1 6 rfl rfl)
theorem dX1_least_30 : decode cX1_least 30 = .ok (.invokestatic 22, 3) := dk_184 0 22 (dk_at dksX1_least_1 8 rfl rfl)
theorem dX1_least_33 : decode cX1_least 33 = .ok (.iload_n 1, 1) := dk_27 (dk_at dksX1_least_1 11 rfl rfl)
theorem dX1_least_34 : decode cX1_least 34 = .ok (.invokevirtual 26, 3) := dk_182 0 26 (dk_at dksX1_least_1 12 rfl rfl)
theorem dX1_least_37 : decode cX1_least 37 = .ok (.aload_n 2, 1) := dk_44 (dk_at dksX1_least_1 15 rfl rfl)
theorem dX1_least_38 : decode cX1_least 38 = .ok (.ifnonnull 7, 3) := dk_199 0 7 (dk_at dksX1_least_1 16 rfl rfl)
theorem dX1_least_41 : decode cX1_least 41 = .ok (.iconst 0, 1) := dk_3 (dk_at dksX1_least_1 19 rfl rfl)
theorem dX1_least_42 : decode cX1_least 42 = .ok (.goto 7, 3) := dk_167 0 7 (dk_at dksX1_least_1 20 rfl rfl)
theorem dX1_least_45 : decode cX1_least 45 = .ok (.aload_n 2, 1) := dk_44 (dk_at dksX1_least_1 23 rfl rfl)
theorem dX1_least_46 : decode cX1_least 46 = .ok (.iload 4, 2) := dk_21 4 (dk_at dksX1_least_2 0 rfl rfl)
theorem dX1_least_48 : decode cX1_least 48 = .ok (.iaload, 1) := dk_46 (dk_at dksX1_least_2 2 rfl rfl)
theorem dX1_least_49 : decode cX1_least 49 = .ok (.iadd, 1) := dk_96 (dk_at dksX1_least_2 3 rfl rfl)
theorem dX1_least_50 : decode cX1_least 50 = .ok (.istore 5, 2) := dk_54 5 (dk_at dksX1_least_2 4 rfl rfl)
theorem dX1_least_52 : decode cX1_least 52 = .ok (.aload_n 0, 1) := dk_42 (dk_at dksX1_least_2 6 rfl rfl)
theorem dX1_least_53 : decode cX1_least 53 = .ok (.getfield 1, 3) := dk_180 0 1 (dk_at dksX1_least_2 7 rfl rfl)
theorem dX1_least_56 : decode cX1_least 56 = .ok (.aload_n 0, 1) := dk_42 (dk_at dksX1_least_2 10 rfl rfl)
theorem dX1_least_57 : decode cX1_least 57 = .ok (.getfield 1, 3) := dk_180 0 1 (dk_at dksX1_least_2 11 rfl rfl)
theorem dX1_least_60 : decode cX1_least 60 = .ok (.getfield 19, 3) := dk_180 0 19 (dk_at dksX1_least_2 14 rfl rfl)
theorem dX1_least_63 : decode cX1_least 63 = .ok (.iload_n 3, 1) := dk_29 (dk_at dksX1_least_2 17 rfl rfl)
theorem dX1_least_64 : decode cX1_least 64 = .ok (.invokestatic 22, 3) := dk_184 0 22 (dk_at dksX1_least_2 18 rfl rfl)
theorem dX1_least_67 : decode cX1_least 67 = .ok (.iload_n 1, 1) := dk_27 (dk_at dksX1_least_2 21 rfl rfl)
theorem dX1_least_68 : decode cX1_least 68 = .ok (.invokevirtual 26, 3) := dk_182 0 26 (dk_at dksX1_least_3 0 rfl rfl)
theorem dX1_least_71 : decode cX1_least 71 = .ok (.aload_n 2, 1) := dk_44 (dk_at dksX1_least_3 3 rfl rfl)
theorem dX1_least_72 : decode cX1_least 72 = .ok (.ifnonnull 7, 3) := dk_199 0 7 (dk_at dksX1_least_3 4 rfl rfl)
theorem dX1_least_75 : decode cX1_least 75 = .ok (.iconst 0, 1) := dk_3 (dk_at dksX1_least_3 7 rfl rfl)
theorem dX1_least_76 : decode cX1_least 76 = .ok (.goto 6, 3) := dk_167 0 6 (dk_at dksX1_least_3 8 rfl rfl)
theorem dX1_least_79 : decode cX1_least 79 = .ok (.aload_n 2, 1) := dk_44 (dk_at dksX1_least_3 11 rfl rfl)
theorem dX1_least_80 : decode cX1_least 80 = .ok (.iload_n 3, 1) := dk_29 (dk_at dksX1_least_3 12 rfl rfl)
theorem dX1_least_81 : decode cX1_least 81 = .ok (.iaload, 1) := dk_46 (dk_at dksX1_least_3 13 rfl rfl)
theorem dX1_least_82 : decode cX1_least 82 = .ok (.iadd, 1) := dk_96 (dk_at dksX1_least_3 14 rfl rfl)
theorem dX1_least_83 : decode cX1_least 83 = .ok (.istore 6, 2) := dk_54 6 (dk_at dksX1_least_3 15 rfl rfl)
theorem dX1_least_85 : decode cX1_least 85 = .ok (.iload 5, 2) := dk_21 5 (dk_at dksX1_least_3 17 rfl rfl)
theorem dX1_least_87 : decode cX1_least 87 = .ok (.iload 6, 2) := dk_21 6 (dk_at dksX1_least_3 19 rfl rfl)
theorem dX1_least_89 : decode cX1_least 89 = .ok (.if_icmp .ge 8, 3) := dk_162 0 8 (dk_at dksX1_least_3 21 rfl rfl)
theorem dX1_least_92 : decode cX1_least 92 = .ok (.iload 4, 2) := dk_21 4 (dk_at dksX1_least_4 0 rfl rfl)
theorem dX1_least_94 : decode cX1_least 94 = .ok (.goto 4, 3) := dk_167 0 4 (dk_at dksX1_least_4 2 rfl rfl)
theorem dX1_least_97 : decode cX1_least 97 = .ok (.iload_n 3, 1) := dk_29 (dk_at dksX1_least_4 5 rfl rfl)
theorem dX1_least_98 : decode cX1_least 98 = .ok (.istore_n 3, 1) := dk_62 (dk_at dksX1_least_4 6 rfl rfl)
theorem dX1_least_99 : decode cX1_least 99 = .ok (.iinc 4 1, 3) := dk_132 4 1 (dk_at dksX1_least_4 7 rfl rfl)
theorem dX1_least_102 : decode cX1_least 102 = .ok (.goto (-97), 3) := dk_167 255 159 (dk_at dksX1_least_4 10 rfl rfl)
theorem dX1_least_105 : decode cX1_least 105 = .ok (.iload_n 3, 1) := dk_29 (dk_at dksX1_least_4 13 rfl rfl)
theorem dX1_least_106 : decode cX1_least 106 = .ok (.ireturn, 1) := dk_172 (dk_at dksX1_least_4 14 rfl rfl)
abbrev cX1_sends : ByteArray := prog_8_method_5_code
def yX1_sends : MethodName := ⟨RX1, "sends", "(I)I"⟩
def dkwX1_sends_0 : List UInt8 := [42, 27, 182, 0, 37, 172]
abbrev dktX1_sends_0 : List UInt8 := dkwX1_sends_0 ++ []
theorem dksX1_sends_0 : cX1_sends.data.toList.drop 0 = dktX1_sends_0 := by decide +kernel
theorem dX1_sends_0 : decode cX1_sends 0 = .ok (.aload_n 0, 1) := dk_42 (dk_at dksX1_sends_0 0 rfl rfl)
theorem dX1_sends_1 : decode cX1_sends 1 = .ok (.iload_n 1, 1) := dk_27 (dk_at dksX1_sends_0 1 rfl rfl)
theorem dX1_sends_2 : decode cX1_sends 2 = .ok (.invokevirtual 37, 3) := dk_182 0 37 (dk_at dksX1_sends_0 2 rfl rfl)
theorem dX1_sends_5 : decode cX1_sends 5 = .ok (.ireturn, 1) := dk_172 (dk_at dksX1_sends_0 5 rfl rfl)
abbrev cX1_went : ByteArray := prog_8_method_6_code
def yX1_went : MethodName := ⟨RX1, "went", "(IZ)V"⟩
theorem dX1_went_0 : decode cX1_went 0 = .ok (.return_, 1) := by decide +kernel
theorem q42 : (Jvm.Cond.initialized "LadderCalls$Near") ∈ lw_all := lw_g (lw_at lw_m1 2 rfl) rfl
theorem q73 : (Jvm.Cond.instantiable "LadderCalls$Near" (1 : Nat)) ∈ lw_all := lw_g (lw_at lw_m1 33 rfl) rfl
theorem q75 : (Jvm.Cond.instanceMethod ({ cls := "LadderCalls$Near", name := "<init>", desc := "(LLadderCalls;)V" } : Jvm.MethodName)) ∈ lw_all := lw_g (lw_at lw_m1 35 rfl) rfl
theorem q76 : (Jvm.Cond.code ({ cls := "LadderCalls$Near", name := "<init>", desc := "(LLadderCalls;)V" } : Jvm.MethodName) prog_8_method_1_code (2 : Nat) (Option.none : Option Jvm.ClassFile.FieldType)) ∈ lw_all := lw_g (lw_at lw_m1 36 rfl) rfl
theorem q77 : (Jvm.Cond.methodLink "LadderCalls$Near" (7 : Nat) ({ cls := "java/lang/Object", name := "<init>", desc := "()V" } : Jvm.MethodName)) ∈ lw_all := lw_g (lw_at lw_m1 37 rfl) rfl
theorem q78 : (Jvm.Cond.fieldLink "LadderCalls$Near" (1 : Nat) "LadderCalls$Near" "this$0" "LLadderCalls;") ∈ lw_all := lw_g (lw_at lw_m1 38 rfl) rfl
theorem q79 : (Jvm.Cond.laysFinal "LadderCalls$Near" "LadderCalls$Near" "this$0" "LLadderCalls;") ∈ lw_all := lw_g (lw_at lw_m1 39 rfl) rfl
theorem q80 : (Jvm.Cond.soleField "LadderCalls$Near" "this$0") ∈ lw_all := lw_g (lw_at lw_m1 40 rfl) rfl
theorem q81 : (Jvm.Cond.superclass "LadderCalls$Near" "java/lang/Object") ∈ lw_all := lw_g (lw_at lw_m1 41 rfl) rfl
theorem q133 : (Jvm.Cond.fieldLinkNest "LadderCalls$Near" (29 : Nat) "LadderCalls" "trace" "J" "LadderCalls") ∈ lw_tbl := lw_at lw_m1 93 rfl
theorem q136 : (Jvm.Cond.fieldLinkNest "LadderCalls$Near" (13 : Nat) "LadderCalls" "ladders" "I" "LadderCalls") ∈ lw_tbl := lw_at lw_m1 96 rfl
theorem q145 : (Jvm.Cond.fieldLinkNest "LadderCalls$Near" (19 : Nat) "LadderCalls" "now" "I" "LadderCalls") ∈ lw_tbl := lw_at lw_m1 105 rfl
theorem q301 : (Jvm.Cond.instanceMethod ({ cls := "LadderCalls$Near", name := "kind", desc := "()I" } : Jvm.MethodName)) ∈ lw_all := lw_g (lw_at lw_m2 21 rfl) rfl
theorem q302 : (Jvm.Cond.selects "LadderCalls$Near" ({ cls := "LadderCalls$Near", name := "kind", desc := "()I" } : Jvm.MethodName) ({ cls := "LadderCalls$Near", name := "kind", desc := "()I" } : Jvm.MethodName)) ∈ lw_all := lw_g (lw_at lw_m2 22 rfl) rfl
theorem q303 : (Jvm.Cond.sameMethod "LadderCalls$Near" "LadderCalls$Near" "kind" "()I") ∈ lw_all := lw_g (lw_at lw_m2 23 rfl) rfl
theorem q313 : (Jvm.Cond.code ({ cls := "LadderCalls$Near", name := "kind", desc := "()I" } : Jvm.MethodName) prog_8_method_2_code (1 : Nat) (Option.some Jvm.ClassFile.FieldType.int)) ∈ lw_all := lw_g (lw_at lw_m2 33 rfl) rfl
theorem q344 : (Jvm.Cond.declares ({ cls := "LadderCalls$Near", name := "nearest", desc := "(I)I" } : Jvm.MethodName)) ∈ lw_tbl := lw_at lw_m2 64 rfl
theorem q346 : (Jvm.Cond.instanceMethod ({ cls := "LadderCalls$Near", name := "nearest", desc := "(I)I" } : Jvm.MethodName)) ∈ lw_all := lw_g (lw_at lw_m2 66 rfl) rfl
theorem q347 : (Jvm.Cond.code ({ cls := "LadderCalls$Near", name := "nearest", desc := "(I)I" } : Jvm.MethodName) prog_8_method_4_code (2 : Nat) (Option.some Jvm.ClassFile.FieldType.int)) ∈ lw_all := lw_g (lw_at lw_m2 67 rfl) rfl
theorem q348 : (Jvm.Cond.methodLink "LadderCalls$Near" (33 : Nat) ({ cls := "LadderCalls$Near", name := "least", desc := "(I[I)I" } : Jvm.MethodName)) ∈ lw_all := lw_g (lw_at lw_m2 68 rfl) rfl
theorem q349 : (Jvm.Cond.instanceMethod ({ cls := "LadderCalls$Near", name := "least", desc := "(I[I)I" } : Jvm.MethodName)) ∈ lw_all := lw_g (lw_at lw_m2 69 rfl) rfl
theorem q350 : (Jvm.Cond.selects "LadderCalls$Near" ({ cls := "LadderCalls$Near", name := "least", desc := "(I[I)I" } : Jvm.MethodName) ({ cls := "LadderCalls$Near", name := "least", desc := "(I[I)I" } : Jvm.MethodName)) ∈ lw_all := lw_g (lw_at lw_m2 70 rfl) rfl
theorem q351 : (Jvm.Cond.sameMethod "LadderCalls$Near" "LadderCalls$Near" "least" "(I[I)I") ∈ lw_all := lw_g (lw_at lw_m2 71 rfl) rfl
theorem q355 : (Jvm.Cond.code ({ cls := "LadderCalls$Near", name := "least", desc := "(I[I)I" } : Jvm.MethodName) prog_8_method_3_code (7 : Nat) (Option.some Jvm.ClassFile.FieldType.int)) ∈ lw_all := lw_g (lw_at lw_m2 75 rfl) rfl
theorem q356 : (Jvm.Cond.methodLinkNest "LadderCalls$Near" (22 : Nat) ({ cls := "LadderCalls", name := "at", desc := "(II)I" } : Jvm.MethodName) "LadderCalls") ∈ lw_tbl := lw_at lw_m2 76 rfl
theorem q357 : (Jvm.Cond.methodLinkNest "LadderCalls$Near" (26 : Nat) ({ cls := "LadderCalls", name := "distance", desc := "(II)I" } : Jvm.MethodName) "LadderCalls") ∈ lw_tbl := lw_at lw_m2 77 rfl
theorem q364 : (Jvm.Cond.instanceMethod ({ cls := "LadderCalls$Near", name := "sends", desc := "(I)I" } : Jvm.MethodName)) ∈ lw_all := lw_g (lw_at lw_m2 84 rfl) rfl
theorem q365 : (Jvm.Cond.code ({ cls := "LadderCalls$Near", name := "sends", desc := "(I)I" } : Jvm.MethodName) prog_8_method_5_code (2 : Nat) (Option.some Jvm.ClassFile.FieldType.int)) ∈ lw_all := lw_g (lw_at lw_m2 85 rfl) rfl
theorem q366 : (Jvm.Cond.methodLink "LadderCalls$Near" (37 : Nat) ({ cls := "LadderCalls$Near", name := "nearest", desc := "(I)I" } : Jvm.MethodName)) ∈ lw_all := lw_g (lw_at lw_m2 86 rfl) rfl
theorem q369 : (Jvm.Cond.declares ({ cls := "LadderCalls$Near", name := "least", desc := "(I[I)I" } : Jvm.MethodName)) ∈ lw_tbl := lw_at lw_m2 89 rfl
theorem q398 : (Jvm.Cond.castable "LadderCalls$Near" "LadderCalls$Sends") ∈ lw_tbl := lw_at lw_m2 118 rfl
theorem q399 : (Jvm.Cond.selects "LadderCalls$Near" ({ cls := "LadderCalls$Sends", name := "sends", desc := "(I)I" } : Jvm.MethodName) ({ cls := "LadderCalls$Near", name := "sends", desc := "(I)I" } : Jvm.MethodName)) ∈ lw_all := lw_g (lw_at lw_m2 119 rfl) rfl
theorem q400 : (Jvm.Cond.unhidden "LadderCalls$Near" "sends" "(I)I") ∈ lw_tbl := lw_at lw_m2 120 rfl
theorem q401 : (Jvm.Cond.publicMethod ({ cls := "LadderCalls$Near", name := "sends", desc := "(I)I" } : Jvm.MethodName)) ∈ lw_tbl := lw_at lw_m2 121 rfl
theorem q414 : (Jvm.Cond.unhidden "LadderCalls$Near" "has" "(III)Z") ∈ lw_tbl := lw_at lw_m2 134 rfl
theorem q416 : (Jvm.Cond.instanceMethod ({ cls := "LadderCalls$Near", name := "went", desc := "(IZ)V" } : Jvm.MethodName)) ∈ lw_all := lw_g (lw_at lw_m2 136 rfl) rfl
theorem q417 : (Jvm.Cond.selects "LadderCalls$Near" ({ cls := "LadderCalls$Near", name := "went", desc := "(IZ)V" } : Jvm.MethodName) ({ cls := "LadderCalls$Near", name := "went", desc := "(IZ)V" } : Jvm.MethodName)) ∈ lw_all := lw_g (lw_at lw_m2 137 rfl) rfl
theorem q418 : (Jvm.Cond.sameMethod "LadderCalls$Near" "LadderCalls$Near" "went" "(IZ)V") ∈ lw_all := lw_g (lw_at lw_m2 138 rfl) rfl
theorem q424 : (Jvm.Cond.code ({ cls := "LadderCalls$Near", name := "went", desc := "(IZ)V" } : Jvm.MethodName) prog_8_method_6_code (3 : Nat) (Option.none : Option Jvm.ClassFile.FieldType)) ∈ lw_all := lw_g (lw_at lw_m2 144 rfl) rfl
theorem q1130 : (Jvm.Cond.sameMethod "LadderCalls$Near" "LadderCalls$Near" "sends" "(I)I") ∈ lw_all := lw_g (lw_at lw_m5 130 rfl) rfl
theorem q1131 : (Jvm.Cond.sameMethod "LadderCalls$Near" "LadderCalls$Near" "nearest" "(I)I") ∈ lw_all := lw_g (lw_at lw_m5 131 rfl) rfl
theorem q1134 : (Jvm.Cond.selects "LadderCalls$Near" ({ cls := "LadderCalls$Near", name := "nearest", desc := "(I)I" } : Jvm.MethodName) ({ cls := "LadderCalls$Near", name := "nearest", desc := "(I)I" } : Jvm.MethodName)) ∈ lw_all := lw_g (lw_at lw_m5 134 rfl) rfl
theorem q1138 : (Jvm.Cond.selects "LadderCalls$Near" ({ cls := "LadderCalls$Near", name := "sends", desc := "(I)I" } : Jvm.MethodName) ({ cls := "LadderCalls$Near", name := "sends", desc := "(I)I" } : Jvm.MethodName)) ∈ lw_all := lw_g (lw_at lw_m5 138 rfl) rfl
theorem in_X1 : ∀ w ∈ wsX10, w ∈ lw_all := lw_in wsX10 [79] (by decide +kernel) (by decide +kernel)
/-! LadderCalls$Even -/
set_option maxRecDepth 100000
def RX2 : String := "LadderCalls$Even"
def TX2 : u_T := fun k => match k with
  | 0 => ("LadderCalls$Near", "this$0", "LLadderCalls;", true)
  | _ => ("LadderCalls$Even", "this$0", "LLadderCalls;", true)
def tyX2 : Nat → FieldType := fun k => match k with
  | 0 => .object "LadderCalls"
  | _ => .object "LadderCalls"
abbrev wsX20 : List Cond := u_ws RX2 TX2 2
-- two fields of one name: no nmX2
theorem tyX2_ok : ∀ k, k < 2 → parseFieldDescriptor (TX2 k).2.2.1 = some (tyX2 k) := by decide +kernel
abbrev cX2_init : ByteArray := prog_5_method_1_code
def yX2_init : MethodName := ⟨RX2, "<init>", "(LLadderCalls;)V"⟩
def dkwX2_init_0 : List UInt8 := [42, 43, 181, 0, 1, 42, 43, 183, 0, 7, 177]
abbrev dktX2_init_0 : List UInt8 := dkwX2_init_0 ++ []
theorem dksX2_init_0 : cX2_init.data.toList.drop 0 = dktX2_init_0 := by decide +kernel
theorem dX2_init_0 : decode cX2_init 0 = .ok (.aload_n 0, 1) := dk_42 (dk_at dksX2_init_0 0 rfl rfl)
theorem dX2_init_1 : decode cX2_init 1 = .ok (.aload_n 1, 1) := dk_43 (dk_at dksX2_init_0 1 rfl rfl)
theorem dX2_init_2 : decode cX2_init 2 = .ok (.putfield 1, 3) := dk_181 0 1 (dk_at dksX2_init_0 2 rfl rfl)
theorem dX2_init_5 : decode cX2_init 5 = .ok (.aload_n 0, 1) := dk_42 (dk_at dksX2_init_0 5 rfl rfl)
theorem dX2_init_6 : decode cX2_init 6 = .ok (.aload_n 1, 1) := dk_43 (dk_at dksX2_init_0 6 rfl rfl)
theorem dX2_init_7 : decode cX2_init 7 = .ok (.invokespecial 7, 3) := dk_183 0 7 (dk_at dksX2_init_0 7 rfl rfl)
theorem dX2_init_10 : decode cX2_init 10 = .ok (.return_, 1) := dk_177 (dk_at dksX2_init_0 10 rfl rfl)
abbrev cX2_kind : ByteArray := prog_5_method_2_code
def yX2_kind : MethodName := ⟨RX2, "kind", "()I"⟩
theorem dX2_kind_0 : decode cX2_kind 0 = .ok (.iconst 1, 1) := by decide +kernel
theorem dX2_kind_1 : decode cX2_kind 1 = .ok (.ireturn, 1) := by decide +kernel
abbrev cX2_sends : ByteArray := prog_5_method_3_code
def yX2_sends : MethodName := ⟨RX2, "sends", "(I)I"⟩
def dkwX2_sends_2 : List UInt8 := [180, 0, 1, 180, 0, 36, 182, 0, 40, 172]
abbrev dktX2_sends_2 : List UInt8 := dkwX2_sends_2 ++ []
def dkwX2_sends_1 : List UInt8 := [180, 0, 1, 180, 0, 25, 27, 182, 0, 28, 153, 0, 11, 42, 27, 183, 0, 32, 167, 0, 15, 42, 27, 42]
abbrev dktX2_sends_1 : List UInt8 := dkwX2_sends_1 ++ dktX2_sends_2
def dkwX2_sends_0 : List UInt8 := [42, 180, 0, 1, 89, 180, 0, 13, 20, 0, 19, 97, 181, 0, 13, 42, 42, 180, 0, 1, 180, 0, 21, 42]
abbrev dktX2_sends_0 : List UInt8 := dkwX2_sends_0 ++ dktX2_sends_1
theorem dksX2_sends_0 : cX2_sends.data.toList.drop 0 = dktX2_sends_0 := by decide +kernel
theorem dksX2_sends_1 : cX2_sends.data.toList.drop 24 = dktX2_sends_1 := dk_seg dksX2_sends_0 24 rfl rfl
theorem dksX2_sends_2 : cX2_sends.data.toList.drop 48 = dktX2_sends_2 := dk_seg dksX2_sends_1 24 rfl rfl
theorem dX2_sends_0 : decode cX2_sends 0 = .ok (.aload_n 0, 1) := dk_42 (dk_at dksX2_sends_0 0 rfl rfl)
theorem dX2_sends_1 : decode cX2_sends 1 = .ok (.getfield 1, 3) := dk_180 0 1 (dk_at dksX2_sends_0 1 rfl rfl)
theorem dX2_sends_4 : decode cX2_sends 4 = .ok (.dup, 1) := dk_89 (dk_at dksX2_sends_0 4 rfl rfl)
theorem dX2_sends_5 : decode cX2_sends 5 = .ok (.getfield 13, 3) := dk_180 0 13 (dk_at dksX2_sends_0 5 rfl rfl)
theorem dX2_sends_8 : decode cX2_sends 8 = .ok (.ldc2_w 19, 3) := dk_20 0 19 (dk_at dksX2_sends_0 8 rfl rfl)
theorem dX2_sends_11 : decode cX2_sends 11 = .ok (.ladd, 1) := dk_97 (dk_at dksX2_sends_0 11 rfl rfl)
theorem dX2_sends_12 : decode cX2_sends 12 = .ok (.putfield 13, 3) := dk_181 0 13 (dk_at dksX2_sends_0 12 rfl rfl)
theorem dX2_sends_15 : decode cX2_sends 15 = .ok (.aload_n 0, 1) := dk_42 (dk_at dksX2_sends_0 15 rfl rfl)
theorem dX2_sends_16 : decode cX2_sends 16 = .ok (.aload_n 0, 1) := dk_42 (dk_at dksX2_sends_0 16 rfl rfl)
theorem dX2_sends_17 : decode cX2_sends 17 = .ok (.getfield 1, 3) := dk_180 0 1 (dk_at dksX2_sends_0 17 rfl rfl)
theorem dX2_sends_20 : decode cX2_sends 20 = .ok (.getfield 21, 3) := dk_180 0 21 (dk_at dksX2_sends_0 20 rfl rfl)
theorem dX2_sends_23 : decode cX2_sends 23 = .ok (.aload_n 0, 1) := dk_42 (dk_at dksX2_sends_0 23 rfl rfl)
theorem dX2_sends_24 : decode cX2_sends 24 = .ok (.getfield 1, 3) := dk_180 0 1 (dk_at dksX2_sends_1 0 rfl rfl)
theorem dX2_sends_27 : decode cX2_sends 27 = .ok (.getfield 25, 3) := dk_180 0 25 (dk_at dksX2_sends_1 3 rfl rfl)
theorem dX2_sends_30 : decode cX2_sends 30 = .ok (.iload_n 1, 1) := dk_27 (dk_at dksX2_sends_1 6 rfl rfl)
theorem dX2_sends_31 : decode cX2_sends 31 = .ok (.invokevirtual 28, 3) := dk_182 0 28 (dk_at dksX2_sends_1 7 rfl rfl)
theorem dX2_sends_34 : decode cX2_sends 34 = .ok (.ifCond .eq 11, 3) := dk_153 0 11 (dk_at dksX2_sends_1 10 rfl rfl)
theorem dX2_sends_37 : decode cX2_sends 37 = .ok (.aload_n 0, 1) := dk_42 (dk_at dksX2_sends_1 13 rfl rfl)
theorem dX2_sends_38 : decode cX2_sends 38 = .ok (.iload_n 1, 1) := dk_27 (dk_at dksX2_sends_1 14 rfl rfl)
theorem dX2_sends_39 : decode cX2_sends 39 = .ok (.invokespecial 32, 3) := dk_183 0 32 (dk_at dksX2_sends_1 15 rfl rfl)
theorem dX2_sends_42 : decode cX2_sends 42 = .ok (.goto 15, 3) := dk_167 0 15 (dk_at dksX2_sends_1 18 rfl rfl)
theorem dX2_sends_45 : decode cX2_sends 45 = .ok (.aload_n 0, 1) := dk_42 (dk_at dksX2_sends_1 21 rfl rfl)
theorem dX2_sends_46 : decode cX2_sends 46 = .ok (.iload_n 1, 1) := dk_27 (dk_at dksX2_sends_1 22 rfl rfl)
theorem dX2_sends_47 : decode cX2_sends 47 = .ok (.aload_n 0, 1) := dk_42 (dk_at dksX2_sends_1 23 rfl rfl)
theorem dX2_sends_48 : decode cX2_sends 48 = .ok (.getfield 1, 3) := dk_180 0 1 (dk_at dksX2_sends_2 0 rfl rfl)
theorem dX2_sends_51 : decode cX2_sends 51 = .ok (.getfield 36, 3) := dk_180 0 36 (dk_at dksX2_sends_2 3 rfl rfl)
theorem dX2_sends_54 : decode cX2_sends 54 = .ok (.invokevirtual 40, 3) := dk_182 0 40 (dk_at dksX2_sends_2 6 rfl rfl)
theorem dX2_sends_57 : decode cX2_sends 57 = .ok (.ireturn, 1) := dk_172 (dk_at dksX2_sends_2 9 rfl rfl)
theorem q43 : (Jvm.Cond.initialized "LadderCalls$Even") ∈ lw_all := lw_g (lw_at lw_m1 3 rfl) rfl
theorem q84 : (Jvm.Cond.instantiable "LadderCalls$Even" (2 : Nat)) ∈ lw_all := lw_g (lw_at lw_m1 44 rfl) rfl
theorem q86 : (Jvm.Cond.instanceMethod ({ cls := "LadderCalls$Even", name := "<init>", desc := "(LLadderCalls;)V" } : Jvm.MethodName)) ∈ lw_all := lw_g (lw_at lw_m1 46 rfl) rfl
theorem q87 : (Jvm.Cond.code ({ cls := "LadderCalls$Even", name := "<init>", desc := "(LLadderCalls;)V" } : Jvm.MethodName) prog_5_method_1_code (2 : Nat) (Option.none : Option Jvm.ClassFile.FieldType)) ∈ lw_all := lw_g (lw_at lw_m1 47 rfl) rfl
theorem q88 : (Jvm.Cond.methodLinkNest "LadderCalls$Even" (7 : Nat) ({ cls := "LadderCalls$Near", name := "<init>", desc := "(LLadderCalls;)V" } : Jvm.MethodName) "LadderCalls") ∈ lw_tbl := lw_at lw_m1 48 rfl
theorem q89 : (Jvm.Cond.fieldLink "LadderCalls$Even" (1 : Nat) "LadderCalls$Even" "this$0" "LLadderCalls;") ∈ lw_all := lw_g (lw_at lw_m1 49 rfl) rfl
theorem q90 : (Jvm.Cond.laysFinal "LadderCalls$Even" "LadderCalls$Even" "this$0" "LLadderCalls;") ∈ lw_all := lw_g (lw_at lw_m1 50 rfl) rfl
theorem q91 : (Jvm.Cond.soleField "LadderCalls$Even" "this$0") ∈ lw_all := lw_g (lw_at lw_m1 51 rfl) rfl
theorem q92 : (Jvm.Cond.laysFinal "LadderCalls$Even" "LadderCalls$Near" "this$0" "LLadderCalls;") ∈ lw_all := lw_g (lw_at lw_m1 52 rfl) rfl
theorem q93 : (Jvm.Cond.superclass "LadderCalls$Even" "LadderCalls$Near") ∈ lw_all := lw_g (lw_at lw_m1 53 rfl) rfl
theorem q131 : (Jvm.Cond.fieldLinkNest "LadderCalls$Even" (13 : Nat) "LadderCalls" "trace" "J" "LadderCalls") ∈ lw_tbl := lw_at lw_m1 91 rfl
theorem q138 : (Jvm.Cond.fieldLinkNest "LadderCalls$Even" (25 : Nat) "LadderCalls" "ladders" "I" "LadderCalls") ∈ lw_tbl := lw_at lw_m1 98 rfl
theorem q143 : (Jvm.Cond.fieldLinkNest "LadderCalls$Even" (21 : Nat) "LadderCalls" "now" "I" "LadderCalls") ∈ lw_tbl := lw_at lw_m1 103 rfl
theorem q148 : (Jvm.Cond.fieldLinkNest "LadderCalls$Even" (36 : Nat) "LadderCalls" "sum" "[I" "LadderCalls") ∈ lw_tbl := lw_at lw_m1 108 rfl
theorem q307 : (Jvm.Cond.selects "LadderCalls$Even" ({ cls := "LadderCalls$Near", name := "kind", desc := "()I" } : Jvm.MethodName) ({ cls := "LadderCalls$Even", name := "kind", desc := "()I" } : Jvm.MethodName)) ∈ lw_all := lw_g (lw_at lw_m2 27 rfl) rfl
theorem q308 : (Jvm.Cond.instanceMethod ({ cls := "LadderCalls$Even", name := "kind", desc := "()I" } : Jvm.MethodName)) ∈ lw_all := lw_g (lw_at lw_m2 28 rfl) rfl
theorem q309 : (Jvm.Cond.code ({ cls := "LadderCalls$Even", name := "kind", desc := "()I" } : Jvm.MethodName) prog_5_method_2_code (1 : Nat) (Option.some Jvm.ClassFile.FieldType.int)) ∈ lw_all := lw_g (lw_at lw_m2 29 rfl) rfl
theorem q353 : (Jvm.Cond.selects "LadderCalls$Even" ({ cls := "LadderCalls$Near", name := "least", desc := "(I[I)I" } : Jvm.MethodName) ({ cls := "LadderCalls$Near", name := "least", desc := "(I[I)I" } : Jvm.MethodName)) ∈ lw_all := lw_g (lw_at lw_m2 73 rfl) rfl
theorem q359 : (Jvm.Cond.instanceMethod ({ cls := "LadderCalls$Even", name := "sends", desc := "(I)I" } : Jvm.MethodName)) ∈ lw_all := lw_g (lw_at lw_m2 79 rfl) rfl
theorem q360 : (Jvm.Cond.code ({ cls := "LadderCalls$Even", name := "sends", desc := "(I)I" } : Jvm.MethodName) prog_5_method_3_code (2 : Nat) (Option.some Jvm.ClassFile.FieldType.int)) ∈ lw_all := lw_g (lw_at lw_m2 80 rfl) rfl
theorem q361 : (Jvm.Cond.constantLong "LadderCalls$Even" (19 : Nat) (10 : Int64)) ∈ lw_all := lw_g (lw_at lw_m2 81 rfl) rfl
theorem q362 : (Jvm.Cond.unhidden "LadderCalls$Even" "has" "(III)Z") ∈ lw_tbl := lw_at lw_m2 82 rfl
theorem q363 : (Jvm.Cond.methodLink "LadderCalls$Even" (32 : Nat) ({ cls := "LadderCalls$Near", name := "sends", desc := "(I)I" } : Jvm.MethodName)) ∈ lw_all := lw_g (lw_at lw_m2 83 rfl) rfl
theorem q367 : (Jvm.Cond.methodLink "LadderCalls$Even" (40 : Nat) ({ cls := "LadderCalls$Even", name := "least", desc := "(I[I)I" } : Jvm.MethodName)) ∈ lw_all := lw_g (lw_at lw_m2 87 rfl) rfl
theorem q368 : (Jvm.Cond.sameMethod "LadderCalls$Even" "LadderCalls$Near" "least" "(I[I)I") ∈ lw_all := lw_g (lw_at lw_m2 88 rfl) rfl
theorem q371 : (Jvm.Cond.selects "LadderCalls$Even" ({ cls := "LadderCalls$Even", name := "least", desc := "(I[I)I" } : Jvm.MethodName) ({ cls := "LadderCalls$Near", name := "least", desc := "(I[I)I" } : Jvm.MethodName)) ∈ lw_all := lw_g (lw_at lw_m2 91 rfl) rfl
theorem q394 : (Jvm.Cond.castable "LadderCalls$Even" "LadderCalls$Sends") ∈ lw_tbl := lw_at lw_m2 114 rfl
theorem q395 : (Jvm.Cond.selects "LadderCalls$Even" ({ cls := "LadderCalls$Sends", name := "sends", desc := "(I)I" } : Jvm.MethodName) ({ cls := "LadderCalls$Even", name := "sends", desc := "(I)I" } : Jvm.MethodName)) ∈ lw_all := lw_g (lw_at lw_m2 115 rfl) rfl
theorem q396 : (Jvm.Cond.unhidden "LadderCalls$Even" "sends" "(I)I") ∈ lw_tbl := lw_at lw_m2 116 rfl
theorem q397 : (Jvm.Cond.publicMethod ({ cls := "LadderCalls$Even", name := "sends", desc := "(I)I" } : Jvm.MethodName)) ∈ lw_tbl := lw_at lw_m2 117 rfl
theorem q420 : (Jvm.Cond.selects "LadderCalls$Even" ({ cls := "LadderCalls$Near", name := "went", desc := "(IZ)V" } : Jvm.MethodName) ({ cls := "LadderCalls$Near", name := "went", desc := "(IZ)V" } : Jvm.MethodName)) ∈ lw_all := lw_g (lw_at lw_m2 140 rfl) rfl
theorem q1129 : (Jvm.Cond.sameMethod "LadderCalls$Even" "LadderCalls$Even" "sends" "(I)I") ∈ lw_all := lw_g (lw_at lw_m5 129 rfl) rfl
theorem q1133 : (Jvm.Cond.selects "LadderCalls$Even" ({ cls := "LadderCalls$Near", name := "nearest", desc := "(I)I" } : Jvm.MethodName) ({ cls := "LadderCalls$Near", name := "nearest", desc := "(I)I" } : Jvm.MethodName)) ∈ lw_all := lw_g (lw_at lw_m5 133 rfl) rfl
theorem q1137 : (Jvm.Cond.selects "LadderCalls$Even" ({ cls := "LadderCalls$Near", name := "sends", desc := "(I)I" } : Jvm.MethodName) ({ cls := "LadderCalls$Even", name := "sends", desc := "(I)I" } : Jvm.MethodName)) ∈ lw_all := lw_g (lw_at lw_m5 137 rfl) rfl
theorem q1141 : (Jvm.Cond.castable "LadderCalls$Even" "LadderCalls$Near") ∈ lw_tbl := lw_at lw_m5 141 rfl
theorem in_X2 : ∀ w ∈ wsX20, w ∈ lw_all := lw_in wsX20 [92, 90] (by decide +kernel) (by decide +kernel)
/-! LadderCalls$Turn -/
set_option maxRecDepth 100000
def RX3 : String := "LadderCalls$Turn"
def TX3 : u_T := fun k => match k with
  | 0 => ("LadderCalls$Near", "this$0", "LLadderCalls;", true)
  | _ => ("LadderCalls$Turn", "this$0", "LLadderCalls;", true)
def tyX3 : Nat → FieldType := fun k => match k with
  | 0 => .object "LadderCalls"
  | _ => .object "LadderCalls"
abbrev wsX30 : List Cond := u_ws RX3 TX3 2
-- two fields of one name: no nmX3
theorem tyX3_ok : ∀ k, k < 2 → parseFieldDescriptor (TX3 k).2.2.1 = some (tyX3 k) := by decide +kernel
abbrev cX3_init : ByteArray := prog_11_method_1_code
def yX3_init : MethodName := ⟨RX3, "<init>", "(LLadderCalls;)V"⟩
def dkwX3_init_0 : List UInt8 := [42, 43, 181, 0, 1, 42, 43, 183, 0, 7, 177]
abbrev dktX3_init_0 : List UInt8 := dkwX3_init_0 ++ []
theorem dksX3_init_0 : cX3_init.data.toList.drop 0 = dktX3_init_0 := by decide +kernel
theorem dX3_init_0 : decode cX3_init 0 = .ok (.aload_n 0, 1) := dk_42 (dk_at dksX3_init_0 0 rfl rfl)
theorem dX3_init_1 : decode cX3_init 1 = .ok (.aload_n 1, 1) := dk_43 (dk_at dksX3_init_0 1 rfl rfl)
theorem dX3_init_2 : decode cX3_init 2 = .ok (.putfield 1, 3) := dk_181 0 1 (dk_at dksX3_init_0 2 rfl rfl)
theorem dX3_init_5 : decode cX3_init 5 = .ok (.aload_n 0, 1) := dk_42 (dk_at dksX3_init_0 5 rfl rfl)
theorem dX3_init_6 : decode cX3_init 6 = .ok (.aload_n 1, 1) := dk_43 (dk_at dksX3_init_0 6 rfl rfl)
theorem dX3_init_7 : decode cX3_init 7 = .ok (.invokespecial 7, 3) := dk_183 0 7 (dk_at dksX3_init_0 7 rfl rfl)
theorem dX3_init_10 : decode cX3_init 10 = .ok (.return_, 1) := dk_177 (dk_at dksX3_init_0 10 rfl rfl)
abbrev cX3_kind : ByteArray := prog_11_method_2_code
def yX3_kind : MethodName := ⟨RX3, "kind", "()I"⟩
theorem dX3_kind_0 : decode cX3_kind 0 = .ok (.iconst 2, 1) := by decide +kernel
theorem dX3_kind_1 : decode cX3_kind 1 = .ok (.ireturn, 1) := by decide +kernel
abbrev cX3_sends : ByteArray := prog_11_method_3_code
def yX3_sends : MethodName := ⟨RX3, "sends", "(I)I"⟩
def dkwX3_sends_2 : List UInt8 := [180, 0, 1, 180, 0, 36, 172]
abbrev dktX3_sends_2 : List UInt8 := dkwX3_sends_2 ++ []
def dkwX3_sends_1 : List UInt8 := [180, 0, 1, 180, 0, 25, 27, 182, 0, 28, 153, 0, 11, 42, 27, 183, 0, 32, 167, 0, 10, 42]
abbrev dktX3_sends_1 : List UInt8 := dkwX3_sends_1 ++ dktX3_sends_2
def dkwX3_sends_0 : List UInt8 := [42, 180, 0, 1, 89, 180, 0, 13, 20, 0, 19, 97, 181, 0, 13, 42, 42, 180, 0, 1, 180, 0, 21, 42]
abbrev dktX3_sends_0 : List UInt8 := dkwX3_sends_0 ++ dktX3_sends_1
theorem dksX3_sends_0 : cX3_sends.data.toList.drop 0 = dktX3_sends_0 := by decide +kernel
theorem dksX3_sends_1 : cX3_sends.data.toList.drop 24 = dktX3_sends_1 := dk_seg dksX3_sends_0 24 rfl rfl
theorem dksX3_sends_2 : cX3_sends.data.toList.drop 46 = dktX3_sends_2 := dk_seg dksX3_sends_1 22 rfl rfl
theorem dX3_sends_0 : decode cX3_sends 0 = .ok (.aload_n 0, 1) := dk_42 (dk_at dksX3_sends_0 0 rfl rfl)
theorem dX3_sends_1 : decode cX3_sends 1 = .ok (.getfield 1, 3) := dk_180 0 1 (dk_at dksX3_sends_0 1 rfl rfl)
theorem dX3_sends_4 : decode cX3_sends 4 = .ok (.dup, 1) := dk_89 (dk_at dksX3_sends_0 4 rfl rfl)
theorem dX3_sends_5 : decode cX3_sends 5 = .ok (.getfield 13, 3) := dk_180 0 13 (dk_at dksX3_sends_0 5 rfl rfl)
theorem dX3_sends_8 : decode cX3_sends 8 = .ok (.ldc2_w 19, 3) := dk_20 0 19 (dk_at dksX3_sends_0 8 rfl rfl)
theorem dX3_sends_11 : decode cX3_sends 11 = .ok (.ladd, 1) := dk_97 (dk_at dksX3_sends_0 11 rfl rfl)
theorem dX3_sends_12 : decode cX3_sends 12 = .ok (.putfield 13, 3) := dk_181 0 13 (dk_at dksX3_sends_0 12 rfl rfl)
theorem dX3_sends_15 : decode cX3_sends 15 = .ok (.aload_n 0, 1) := dk_42 (dk_at dksX3_sends_0 15 rfl rfl)
theorem dX3_sends_16 : decode cX3_sends 16 = .ok (.aload_n 0, 1) := dk_42 (dk_at dksX3_sends_0 16 rfl rfl)
theorem dX3_sends_17 : decode cX3_sends 17 = .ok (.getfield 1, 3) := dk_180 0 1 (dk_at dksX3_sends_0 17 rfl rfl)
theorem dX3_sends_20 : decode cX3_sends 20 = .ok (.getfield 21, 3) := dk_180 0 21 (dk_at dksX3_sends_0 20 rfl rfl)
theorem dX3_sends_23 : decode cX3_sends 23 = .ok (.aload_n 0, 1) := dk_42 (dk_at dksX3_sends_0 23 rfl rfl)
theorem dX3_sends_24 : decode cX3_sends 24 = .ok (.getfield 1, 3) := dk_180 0 1 (dk_at dksX3_sends_1 0 rfl rfl)
theorem dX3_sends_27 : decode cX3_sends 27 = .ok (.getfield 25, 3) := dk_180 0 25 (dk_at dksX3_sends_1 3 rfl rfl)
theorem dX3_sends_30 : decode cX3_sends 30 = .ok (.iload_n 1, 1) := dk_27 (dk_at dksX3_sends_1 6 rfl rfl)
theorem dX3_sends_31 : decode cX3_sends 31 = .ok (.invokevirtual 28, 3) := dk_182 0 28 (dk_at dksX3_sends_1 7 rfl rfl)
theorem dX3_sends_34 : decode cX3_sends 34 = .ok (.ifCond .eq 11, 3) := dk_153 0 11 (dk_at dksX3_sends_1 10 rfl rfl)
theorem dX3_sends_37 : decode cX3_sends 37 = .ok (.aload_n 0, 1) := dk_42 (dk_at dksX3_sends_1 13 rfl rfl)
theorem dX3_sends_38 : decode cX3_sends 38 = .ok (.iload_n 1, 1) := dk_27 (dk_at dksX3_sends_1 14 rfl rfl)
theorem dX3_sends_39 : decode cX3_sends 39 = .ok (.invokespecial 32, 3) := dk_183 0 32 (dk_at dksX3_sends_1 15 rfl rfl)
theorem dX3_sends_42 : decode cX3_sends 42 = .ok (.goto 10, 3) := dk_167 0 10 (dk_at dksX3_sends_1 18 rfl rfl)
theorem dX3_sends_45 : decode cX3_sends 45 = .ok (.aload_n 0, 1) := dk_42 (dk_at dksX3_sends_1 21 rfl rfl)
theorem dX3_sends_46 : decode cX3_sends 46 = .ok (.getfield 1, 3) := dk_180 0 1 (dk_at dksX3_sends_2 0 rfl rfl)
theorem dX3_sends_49 : decode cX3_sends 49 = .ok (.getfield 36, 3) := dk_180 0 36 (dk_at dksX3_sends_2 3 rfl rfl)
theorem dX3_sends_52 : decode cX3_sends 52 = .ok (.ireturn, 1) := dk_172 (dk_at dksX3_sends_2 6 rfl rfl)
abbrev cX3_went : ByteArray := prog_11_method_4_code
def yX3_went : MethodName := ⟨RX3, "went", "(IZ)V"⟩
def dkwX3_went_1 : List UInt8 := [180, 0, 1, 180, 0, 25, 112, 181, 0, 36, 177]
abbrev dktX3_went_1 : List UInt8 := dkwX3_went_1 ++ []
def dkwX3_went_0 : List UInt8 := [42, 180, 0, 1, 28, 153, 0, 13, 42, 180, 0, 1, 180, 0, 36, 167, 0, 14, 27, 4, 96, 42]
abbrev dktX3_went_0 : List UInt8 := dkwX3_went_0 ++ dktX3_went_1
theorem dksX3_went_0 : cX3_went.data.toList.drop 0 = dktX3_went_0 := by decide +kernel
theorem dksX3_went_1 : cX3_went.data.toList.drop 22 = dktX3_went_1 := dk_seg dksX3_went_0 22 rfl rfl
theorem dX3_went_0 : decode cX3_went 0 = .ok (.aload_n 0, 1) := dk_42 (dk_at dksX3_went_0 0 rfl rfl)
theorem dX3_went_1 : decode cX3_went 1 = .ok (.getfield 1, 3) := dk_180 0 1 (dk_at dksX3_went_0 1 rfl rfl)
theorem dX3_went_4 : decode cX3_went 4 = .ok (.iload_n 2, 1) := dk_28 (dk_at dksX3_went_0 4 rfl rfl)
theorem dX3_went_5 : decode cX3_went 5 = .ok (.ifCond .eq 13, 3) := dk_153 0 13 (dk_at dksX3_went_0 5 rfl rfl)
theorem dX3_went_8 : decode cX3_went 8 = .ok (.aload_n 0, 1) := dk_42 (dk_at dksX3_went_0 8 rfl rfl)
theorem dX3_went_9 : decode cX3_went 9 = .ok (.getfield 1, 3) := dk_180 0 1 (dk_at dksX3_went_0 9 rfl rfl)
theorem dX3_went_12 : decode cX3_went 12 = .ok (.getfield 36, 3) := dk_180 0 36 (dk_at dksX3_went_0 12 rfl rfl)
theorem dX3_went_15 : decode cX3_went 15 = .ok (.goto 14, 3) := dk_167 0 14 (dk_at dksX3_went_0 15 rfl rfl)
theorem dX3_went_18 : decode cX3_went 18 = .ok (.iload_n 1, 1) := dk_27 (dk_at dksX3_went_0 18 rfl rfl)
theorem dX3_went_19 : decode cX3_went 19 = .ok (.iconst 1, 1) := dk_4 (dk_at dksX3_went_0 19 rfl rfl)
theorem dX3_went_20 : decode cX3_went 20 = .ok (.iadd, 1) := dk_96 (dk_at dksX3_went_0 20 rfl rfl)
theorem dX3_went_21 : decode cX3_went 21 = .ok (.aload_n 0, 1) := dk_42 (dk_at dksX3_went_0 21 rfl rfl)
theorem dX3_went_22 : decode cX3_went 22 = .ok (.getfield 1, 3) := dk_180 0 1 (dk_at dksX3_went_1 0 rfl rfl)
theorem dX3_went_25 : decode cX3_went 25 = .ok (.getfield 25, 3) := dk_180 0 25 (dk_at dksX3_went_1 3 rfl rfl)
theorem dX3_went_28 : decode cX3_went 28 = .ok (.irem, 1) := dk_112 (dk_at dksX3_went_1 6 rfl rfl)
theorem dX3_went_29 : decode cX3_went 29 = .ok (.putfield 36, 3) := dk_181 0 36 (dk_at dksX3_went_1 7 rfl rfl)
theorem dX3_went_32 : decode cX3_went 32 = .ok (.return_, 1) := dk_177 (dk_at dksX3_went_1 10 rfl rfl)
theorem q44 : (Jvm.Cond.initialized "LadderCalls$Turn") ∈ lw_all := lw_g (lw_at lw_m1 4 rfl) rfl
theorem q95 : (Jvm.Cond.instantiable "LadderCalls$Turn" (2 : Nat)) ∈ lw_all := lw_g (lw_at lw_m1 55 rfl) rfl
theorem q97 : (Jvm.Cond.instanceMethod ({ cls := "LadderCalls$Turn", name := "<init>", desc := "(LLadderCalls;)V" } : Jvm.MethodName)) ∈ lw_all := lw_g (lw_at lw_m1 57 rfl) rfl
theorem q98 : (Jvm.Cond.code ({ cls := "LadderCalls$Turn", name := "<init>", desc := "(LLadderCalls;)V" } : Jvm.MethodName) prog_11_method_1_code (2 : Nat) (Option.none : Option Jvm.ClassFile.FieldType)) ∈ lw_all := lw_g (lw_at lw_m1 58 rfl) rfl
theorem q99 : (Jvm.Cond.methodLinkNest "LadderCalls$Turn" (7 : Nat) ({ cls := "LadderCalls$Near", name := "<init>", desc := "(LLadderCalls;)V" } : Jvm.MethodName) "LadderCalls") ∈ lw_tbl := lw_at lw_m1 59 rfl
theorem q100 : (Jvm.Cond.fieldLink "LadderCalls$Turn" (1 : Nat) "LadderCalls$Turn" "this$0" "LLadderCalls;") ∈ lw_all := lw_g (lw_at lw_m1 60 rfl) rfl
theorem q101 : (Jvm.Cond.laysFinal "LadderCalls$Turn" "LadderCalls$Turn" "this$0" "LLadderCalls;") ∈ lw_all := lw_g (lw_at lw_m1 61 rfl) rfl
theorem q102 : (Jvm.Cond.soleField "LadderCalls$Turn" "this$0") ∈ lw_all := lw_g (lw_at lw_m1 62 rfl) rfl
theorem q103 : (Jvm.Cond.laysFinal "LadderCalls$Turn" "LadderCalls$Near" "this$0" "LLadderCalls;") ∈ lw_all := lw_g (lw_at lw_m1 63 rfl) rfl
theorem q104 : (Jvm.Cond.superclass "LadderCalls$Turn" "LadderCalls$Near") ∈ lw_all := lw_g (lw_at lw_m1 64 rfl) rfl
theorem q132 : (Jvm.Cond.fieldLinkNest "LadderCalls$Turn" (13 : Nat) "LadderCalls" "trace" "J" "LadderCalls") ∈ lw_tbl := lw_at lw_m1 92 rfl
theorem q139 : (Jvm.Cond.fieldLinkNest "LadderCalls$Turn" (25 : Nat) "LadderCalls" "ladders" "I" "LadderCalls") ∈ lw_tbl := lw_at lw_m1 99 rfl
theorem q144 : (Jvm.Cond.fieldLinkNest "LadderCalls$Turn" (21 : Nat) "LadderCalls" "now" "I" "LadderCalls") ∈ lw_tbl := lw_at lw_m1 104 rfl
theorem q149 : (Jvm.Cond.fieldLinkNest "LadderCalls$Turn" (36 : Nat) "LadderCalls" "nextTurn" "I" "LadderCalls") ∈ lw_tbl := lw_at lw_m1 109 rfl
theorem q310 : (Jvm.Cond.selects "LadderCalls$Turn" ({ cls := "LadderCalls$Near", name := "kind", desc := "()I" } : Jvm.MethodName) ({ cls := "LadderCalls$Turn", name := "kind", desc := "()I" } : Jvm.MethodName)) ∈ lw_all := lw_g (lw_at lw_m2 30 rfl) rfl
theorem q311 : (Jvm.Cond.instanceMethod ({ cls := "LadderCalls$Turn", name := "kind", desc := "()I" } : Jvm.MethodName)) ∈ lw_all := lw_g (lw_at lw_m2 31 rfl) rfl
theorem q312 : (Jvm.Cond.code ({ cls := "LadderCalls$Turn", name := "kind", desc := "()I" } : Jvm.MethodName) prog_11_method_2_code (1 : Nat) (Option.some Jvm.ClassFile.FieldType.int)) ∈ lw_all := lw_g (lw_at lw_m2 32 rfl) rfl
theorem q354 : (Jvm.Cond.selects "LadderCalls$Turn" ({ cls := "LadderCalls$Near", name := "least", desc := "(I[I)I" } : Jvm.MethodName) ({ cls := "LadderCalls$Near", name := "least", desc := "(I[I)I" } : Jvm.MethodName)) ∈ lw_all := lw_g (lw_at lw_m2 74 rfl) rfl
theorem q402 : (Jvm.Cond.castable "LadderCalls$Turn" "LadderCalls$Sends") ∈ lw_tbl := lw_at lw_m2 122 rfl
theorem q403 : (Jvm.Cond.selects "LadderCalls$Turn" ({ cls := "LadderCalls$Sends", name := "sends", desc := "(I)I" } : Jvm.MethodName) ({ cls := "LadderCalls$Turn", name := "sends", desc := "(I)I" } : Jvm.MethodName)) ∈ lw_all := lw_g (lw_at lw_m2 123 rfl) rfl
theorem q404 : (Jvm.Cond.unhidden "LadderCalls$Turn" "sends" "(I)I") ∈ lw_tbl := lw_at lw_m2 124 rfl
theorem q405 : (Jvm.Cond.instanceMethod ({ cls := "LadderCalls$Turn", name := "sends", desc := "(I)I" } : Jvm.MethodName)) ∈ lw_all := lw_g (lw_at lw_m2 125 rfl) rfl
theorem q406 : (Jvm.Cond.publicMethod ({ cls := "LadderCalls$Turn", name := "sends", desc := "(I)I" } : Jvm.MethodName)) ∈ lw_tbl := lw_at lw_m2 126 rfl
theorem q407 : (Jvm.Cond.code ({ cls := "LadderCalls$Turn", name := "sends", desc := "(I)I" } : Jvm.MethodName) prog_11_method_3_code (2 : Nat) (Option.some Jvm.ClassFile.FieldType.int)) ∈ lw_all := lw_g (lw_at lw_m2 127 rfl) rfl
theorem q408 : (Jvm.Cond.constantLong "LadderCalls$Turn" (19 : Nat) (100 : Int64)) ∈ lw_all := lw_g (lw_at lw_m2 128 rfl) rfl
theorem q409 : (Jvm.Cond.unhidden "LadderCalls$Turn" "has" "(III)Z") ∈ lw_tbl := lw_at lw_m2 129 rfl
theorem q410 : (Jvm.Cond.methodLink "LadderCalls$Turn" (32 : Nat) ({ cls := "LadderCalls$Near", name := "sends", desc := "(I)I" } : Jvm.MethodName)) ∈ lw_all := lw_g (lw_at lw_m2 130 rfl) rfl
theorem q421 : (Jvm.Cond.selects "LadderCalls$Turn" ({ cls := "LadderCalls$Near", name := "went", desc := "(IZ)V" } : Jvm.MethodName) ({ cls := "LadderCalls$Turn", name := "went", desc := "(IZ)V" } : Jvm.MethodName)) ∈ lw_all := lw_g (lw_at lw_m2 141 rfl) rfl
theorem q422 : (Jvm.Cond.instanceMethod ({ cls := "LadderCalls$Turn", name := "went", desc := "(IZ)V" } : Jvm.MethodName)) ∈ lw_all := lw_g (lw_at lw_m2 142 rfl) rfl
theorem q423 : (Jvm.Cond.code ({ cls := "LadderCalls$Turn", name := "went", desc := "(IZ)V" } : Jvm.MethodName) prog_11_method_4_code (3 : Nat) (Option.none : Option Jvm.ClassFile.FieldType)) ∈ lw_all := lw_g (lw_at lw_m2 143 rfl) rfl
theorem q1135 : (Jvm.Cond.selects "LadderCalls$Turn" ({ cls := "LadderCalls$Near", name := "nearest", desc := "(I)I" } : Jvm.MethodName) ({ cls := "LadderCalls$Near", name := "nearest", desc := "(I)I" } : Jvm.MethodName)) ∈ lw_all := lw_g (lw_at lw_m5 135 rfl) rfl
theorem q1139 : (Jvm.Cond.selects "LadderCalls$Turn" ({ cls := "LadderCalls$Near", name := "sends", desc := "(I)I" } : Jvm.MethodName) ({ cls := "LadderCalls$Turn", name := "sends", desc := "(I)I" } : Jvm.MethodName)) ∈ lw_all := lw_g (lw_at lw_m5 139 rfl) rfl
theorem q1142 : (Jvm.Cond.castable "LadderCalls$Turn" "LadderCalls$Near") ∈ lw_tbl := lw_at lw_m5 142 rfl
theorem in_X3 : ∀ w ∈ wsX30, w ∈ lw_all := lw_in wsX30 [103, 101] (by decide +kernel) (by decide +kernel)
/-! LadderCalls$Ahead -/
set_option maxRecDepth 100000
def RX4 : String := "LadderCalls$Ahead"
def TX4 : u_T := fun k => match k with
  | 0 => ("LadderCalls$Near", "this$0", "LLadderCalls;", true)
  | 1 => ("LadderCalls$Even", "this$0", "LLadderCalls;", true)
  | 2 => ("LadderCalls$Ahead", "works", "[I", true)
  | _ => ("LadderCalls$Ahead", "this$0", "LLadderCalls;", true)
def tyX4 : Nat → FieldType := fun k => match k with
  | 0 => .object "LadderCalls"
  | 1 => .object "LadderCalls"
  | 2 => .array .int
  | _ => .object "LadderCalls"
abbrev wsX40 : List Cond := u_ws RX4 TX4 4
-- two fields of one name: no nmX4
theorem tyX4_ok : ∀ k, k < 4 → parseFieldDescriptor (TX4 k).2.2.1 = some (tyX4 k) := by decide +kernel
abbrev cX4_init : ByteArray := prog_2_method_1_code
def yX4_init : MethodName := ⟨RX4, "<init>", "(LLadderCalls;)V"⟩
def dkwX4_init_0 : List UInt8 := [42, 43, 181, 0, 3, 42, 43, 183, 0, 9, 42, 6, 188, 10, 181, 0, 15, 177]
abbrev dktX4_init_0 : List UInt8 := dkwX4_init_0 ++ []
theorem dksX4_init_0 : cX4_init.data.toList.drop 0 = dktX4_init_0 := by decide +kernel
theorem dX4_init_0 : decode cX4_init 0 = .ok (.aload_n 0, 1) := dk_42 (dk_at dksX4_init_0 0 rfl rfl)
theorem dX4_init_1 : decode cX4_init 1 = .ok (.aload_n 1, 1) := dk_43 (dk_at dksX4_init_0 1 rfl rfl)
theorem dX4_init_2 : decode cX4_init 2 = .ok (.putfield 3, 3) := dk_181 0 3 (dk_at dksX4_init_0 2 rfl rfl)
theorem dX4_init_5 : decode cX4_init 5 = .ok (.aload_n 0, 1) := dk_42 (dk_at dksX4_init_0 5 rfl rfl)
theorem dX4_init_6 : decode cX4_init 6 = .ok (.aload_n 1, 1) := dk_43 (dk_at dksX4_init_0 6 rfl rfl)
theorem dX4_init_7 : decode cX4_init 7 = .ok (.invokespecial 9, 3) := dk_183 0 9 (dk_at dksX4_init_0 7 rfl rfl)
theorem dX4_init_10 : decode cX4_init 10 = .ok (.aload_n 0, 1) := dk_42 (dk_at dksX4_init_0 10 rfl rfl)
theorem dX4_init_11 : decode cX4_init 11 = .ok (.iconst 3, 1) := dk_6 (dk_at dksX4_init_0 11 rfl rfl)
theorem dX4_init_12 : decode cX4_init 12 = .ok (.newarray .int, 2) := dk_188_10 (dk_at dksX4_init_0 12 rfl rfl)
theorem dX4_init_14 : decode cX4_init 14 = .ok (.putfield 15, 3) := dk_181 0 15 (dk_at dksX4_init_0 14 rfl rfl)
theorem dX4_init_17 : decode cX4_init 17 = .ok (.return_, 1) := dk_177 (dk_at dksX4_init_0 17 rfl rfl)
abbrev cX4_kind : ByteArray := prog_2_method_2_code
def yX4_kind : MethodName := ⟨RX4, "kind", "()I"⟩
theorem dX4_kind_0 : decode cX4_kind 0 = .ok (.iconst 3, 1) := by decide +kernel
theorem dX4_kind_1 : decode cX4_kind 1 = .ok (.ireturn, 1) := by decide +kernel
abbrev cX4_sends : ByteArray := prog_2_method_3_code
def yX4_sends : MethodName := ⟨RX4, "sends", "(I)I"⟩
def dkwX4_sends_5 : List UInt8 := [29, 27, 184, 0, 53, 46, 79, 132, 3, 1, 167, 255, 222, 42, 27, 42, 180, 0, 15, 182, 0, 57, 172]
abbrev dktX4_sends_5 : List UInt8 := dkwX4_sends_5 ++ []
def dkwX4_sends_4 : List UInt8 := [29, 42, 180, 0, 3, 180, 0, 29, 162, 0, 29, 42, 180, 0, 15, 29, 44, 42, 180, 0, 3, 180, 0, 25]
abbrev dktX4_sends_4 : List UInt8 := dkwX4_sends_4 ++ dktX4_sends_5
def dkwX4_sends_3 : List UInt8 := [180, 0, 46, 27, 79, 42, 180, 0, 3, 42, 180, 0, 3, 180, 0, 46, 4, 96, 182, 0, 49, 77, 3, 62]
abbrev dktX4_sends_3 : List UInt8 := dkwX4_sends_3 ++ dktX4_sends_4
def dkwX4_sends_2 : List UInt8 := [180, 0, 29, 4, 160, 0, 9, 42, 27, 183, 0, 40, 172, 42, 180, 0, 3, 180, 0, 43, 42, 180, 0, 3]
abbrev dktX4_sends_2 : List UInt8 := dkwX4_sends_2 ++ dktX4_sends_3
def dkwX4_sends_1 : List UInt8 := [180, 0, 3, 180, 0, 29, 27, 182, 0, 32, 153, 0, 9, 42, 27, 182, 0, 36, 172, 42, 180, 0, 3]
abbrev dktX4_sends_1 : List UInt8 := dkwX4_sends_1 ++ dktX4_sends_2
def dkwX4_sends_0 : List UInt8 := [42, 180, 0, 3, 89, 180, 0, 19, 20, 0, 23, 97, 181, 0, 19, 42, 42, 180, 0, 3, 180, 0, 25, 42]
abbrev dktX4_sends_0 : List UInt8 := dkwX4_sends_0 ++ dktX4_sends_1
theorem dksX4_sends_0 : cX4_sends.data.toList.drop 0 = dktX4_sends_0 := by decide +kernel
theorem dksX4_sends_1 : cX4_sends.data.toList.drop 24 = dktX4_sends_1 := dk_seg dksX4_sends_0 24 rfl rfl
theorem dksX4_sends_2 : cX4_sends.data.toList.drop 47 = dktX4_sends_2 := dk_seg dksX4_sends_1 23 rfl rfl
theorem dksX4_sends_3 : cX4_sends.data.toList.drop 71 = dktX4_sends_3 := dk_seg dksX4_sends_2 24 rfl rfl
theorem dksX4_sends_4 : cX4_sends.data.toList.drop 95 = dktX4_sends_4 := dk_seg dksX4_sends_3 24 rfl rfl
theorem dksX4_sends_5 : cX4_sends.data.toList.drop 119 = dktX4_sends_5 := dk_seg dksX4_sends_4 24 rfl rfl
theorem dX4_sends_0 : decode cX4_sends 0 = .ok (.aload_n 0, 1) := dk_42 (dk_at dksX4_sends_0 0 rfl rfl)
theorem dX4_sends_1 : decode cX4_sends 1 = .ok (.getfield 3, 3) := dk_180 0 3 (dk_at dksX4_sends_0 1 rfl rfl)
theorem dX4_sends_4 : decode cX4_sends 4 = .ok (.dup, 1) := dk_89 (dk_at dksX4_sends_0 4 rfl rfl)
theorem dX4_sends_5 : decode cX4_sends 5 = .ok (.getfield 19, 3) := dk_180 0 19 (dk_at dksX4_sends_0 5 rfl rfl)
theorem dX4_sends_8 : decode cX4_sends 8 = .ok (.ldc2_w 23, 3) := dk_20 0 23 (dk_at dksX4_sends_0 8 rfl rfl)
theorem dX4_sends_11 : decode cX4_sends 11 = .ok (.ladd, 1) := dk_97 (dk_at dksX4_sends_0 11 rfl rfl)
theorem dX4_sends_12 : decode cX4_sends 12 = .ok (.putfield 19, 3) := dk_181 0 19 (dk_at dksX4_sends_0 12 rfl rfl)
theorem dX4_sends_15 : decode cX4_sends 15 = .ok (.aload_n 0, 1) := dk_42 (dk_at dksX4_sends_0 15 rfl rfl)
theorem dX4_sends_16 : decode cX4_sends 16 = .ok (.aload_n 0, 1) := dk_42 (dk_at dksX4_sends_0 16 rfl rfl)
theorem dX4_sends_17 : decode cX4_sends 17 = .ok (.getfield 3, 3) := dk_180 0 3 (dk_at dksX4_sends_0 17 rfl rfl)
theorem dX4_sends_20 : decode cX4_sends 20 = .ok (.getfield 25, 3) := dk_180 0 25 (dk_at dksX4_sends_0 20 rfl rfl)
theorem dX4_sends_23 : decode cX4_sends 23 = .ok (.aload_n 0, 1) := dk_42 (dk_at dksX4_sends_0 23 rfl rfl)
theorem dX4_sends_24 : decode cX4_sends 24 = .ok (.getfield 3, 3) := dk_180 0 3 (dk_at dksX4_sends_1 0 rfl rfl)
theorem dX4_sends_27 : decode cX4_sends 27 = .ok (.getfield 29, 3) := dk_180 0 29 (dk_at dksX4_sends_1 3 rfl rfl)
theorem dX4_sends_30 : decode cX4_sends 30 = .ok (.iload_n 1, 1) := dk_27 (dk_at dksX4_sends_1 6 rfl rfl)
theorem dX4_sends_31 : decode cX4_sends 31 = .ok (.invokevirtual 32, 3) := dk_182 0 32 (dk_at dksX4_sends_1 7 rfl rfl)
theorem dX4_sends_34 : decode cX4_sends 34 = .ok (.ifCond .eq 9, 3) := dk_153 0 9 (dk_at dksX4_sends_1 10 rfl rfl)
theorem dX4_sends_37 : decode cX4_sends 37 = .ok (.aload_n 0, 1) := dk_42 (dk_at dksX4_sends_1 13 rfl rfl)
theorem dX4_sends_38 : decode cX4_sends 38 = .ok (.iload_n 1, 1) := dk_27 (dk_at dksX4_sends_1 14 rfl rfl)
theorem dX4_sends_39 : decode cX4_sends 39 = .ok (.invokevirtual 36, 3) := dk_182 0 36 (dk_at dksX4_sends_1 15 rfl rfl)
theorem dX4_sends_42 : decode cX4_sends 42 = .ok (.ireturn, 1) := dk_172 (dk_at dksX4_sends_1 18 rfl rfl)
theorem dX4_sends_43 : decode cX4_sends 43 = .ok (.aload_n 0, 1) := dk_42 (dk_at dksX4_sends_1 19 rfl rfl)
theorem dX4_sends_44 : decode cX4_sends 44 = .ok (.getfield 3, 3) := dk_180 0 3 (dk_at dksX4_sends_1 20 rfl rfl)
theorem dX4_sends_47 : decode cX4_sends 47 = .ok (.getfield 29, 3) := dk_180 0 29 (dk_at dksX4_sends_2 0 rfl rfl)
theorem dX4_sends_50 : decode cX4_sends 50 = .ok (.iconst 1, 1) := dk_4 (dk_at dksX4_sends_2 3 rfl rfl)
theorem dX4_sends_51 : decode cX4_sends 51 = .ok (.if_icmp .ne 9, 3) := dk_160 0 9 (dk_at dksX4_sends_2 4 rfl rfl)
theorem dX4_sends_54 : decode cX4_sends 54 = .ok (.aload_n 0, 1) := dk_42 (dk_at dksX4_sends_2 7 rfl rfl)
theorem dX4_sends_55 : decode cX4_sends 55 = .ok (.iload_n 1, 1) := dk_27 (dk_at dksX4_sends_2 8 rfl rfl)
theorem dX4_sends_56 : decode cX4_sends 56 = .ok (.invokespecial 40, 3) := dk_183 0 40 (dk_at dksX4_sends_2 9 rfl rfl)
theorem dX4_sends_59 : decode cX4_sends 59 = .ok (.ireturn, 1) := dk_172 (dk_at dksX4_sends_2 12 rfl rfl)
theorem dX4_sends_60 : decode cX4_sends 60 = .ok (.aload_n 0, 1) := dk_42 (dk_at dksX4_sends_2 13 rfl rfl)
theorem dX4_sends_61 : decode cX4_sends 61 = .ok (.getfield 3, 3) := dk_180 0 3 (dk_at dksX4_sends_2 14 rfl rfl)
theorem dX4_sends_64 : decode cX4_sends 64 = .ok (.getfield 43, 3) := dk_180 0 43 (dk_at dksX4_sends_2 17 rfl rfl)
theorem dX4_sends_67 : decode cX4_sends 67 = .ok (.aload_n 0, 1) := dk_42 (dk_at dksX4_sends_2 20 rfl rfl)
theorem dX4_sends_68 : decode cX4_sends 68 = .ok (.getfield 3, 3) := dk_180 0 3 (dk_at dksX4_sends_2 21 rfl rfl)
theorem dX4_sends_71 : decode cX4_sends 71 = .ok (.getfield 46, 3) := dk_180 0 46 (dk_at dksX4_sends_3 0 rfl rfl)
theorem dX4_sends_74 : decode cX4_sends 74 = .ok (.iload_n 1, 1) := dk_27 (dk_at dksX4_sends_3 3 rfl rfl)
theorem dX4_sends_75 : decode cX4_sends 75 = .ok (.iastore, 1) := dk_79 (dk_at dksX4_sends_3 4 rfl rfl)
theorem dX4_sends_76 : decode cX4_sends 76 = .ok (.aload_n 0, 1) := dk_42 (dk_at dksX4_sends_3 5 rfl rfl)
theorem dX4_sends_77 : decode cX4_sends 77 = .ok (.getfield 3, 3) := dk_180 0 3 (dk_at dksX4_sends_3 6 rfl rfl)
theorem dX4_sends_80 : decode cX4_sends 80 = .ok (.aload_n 0, 1) := dk_42 (dk_at dksX4_sends_3 9 rfl rfl)
theorem dX4_sends_81 : decode cX4_sends 81 = .ok (.getfield 3, 3) := dk_180 0 3 (dk_at dksX4_sends_3 10 rfl rfl)
theorem dX4_sends_84 : decode cX4_sends 84 = .ok (.getfield 46, 3) := dk_180 0 46 (dk_at dksX4_sends_3 13 rfl rfl)
theorem dX4_sends_87 : decode cX4_sends 87 = .ok (.iconst 1, 1) := dk_4 (dk_at dksX4_sends_3 16 rfl rfl)
theorem dX4_sends_88 : decode cX4_sends 88 = .ok (.iadd, 1) := dk_96 (dk_at dksX4_sends_3 17 rfl rfl)
theorem dX4_sends_89 : decode cX4_sends 89 = .ok (.invokevirtual 49, 3) := dk_182 0 49 (dk_at dksX4_sends_3 18 rfl rfl)
theorem dX4_sends_92 : decode cX4_sends 92 = .ok (.astore_n 2, 1) := dk_77 (dk_at dksX4_sends_3 21 rfl rfl)
theorem dX4_sends_93 : decode cX4_sends 93 = .ok (.iconst 0, 1) := dk_3 (dk_at dksX4_sends_3 22 rfl rfl)
theorem dX4_sends_94 : decode cX4_sends 94 = .ok (.istore_n 3, 1) := dk_62 (dk_at dksX4_sends_3 23 rfl rfl)
theorem dX4_sends_95 : decode cX4_sends 95 = .ok (.iload_n 3, 1) := dk_29 (dk_at dksX4_sends_4 0 rfl rfl)
theorem dX4_sends_96 : decode cX4_sends 96 = .ok (.aload_n 0, 1) := dk_42 (dk_at dksX4_sends_4 1 rfl rfl)
theorem dX4_sends_97 : decode cX4_sends 97 = .ok (.getfield 3, 3) := dk_180 0 3 (dk_at dksX4_sends_4 2 rfl rfl)
theorem dX4_sends_100 : decode cX4_sends 100 = .ok (.getfield 29, 3) := dk_180 0 29 (dk_at dksX4_sends_4 5 rfl rfl)
theorem dX4_sends_103 : decode cX4_sends 103 = .ok (.if_icmp .ge 29, 3) := dk_162 0 29 (dk_at dksX4_sends_4 8 rfl rfl)
theorem dX4_sends_106 : decode cX4_sends 106 = .ok (.aload_n 0, 1) := dk_42 (dk_at dksX4_sends_4 11 rfl rfl)
theorem dX4_sends_107 : decode cX4_sends 107 = .ok (.getfield 15, 3) := dk_180 0 15 (dk_at dksX4_sends_4 12 rfl rfl)
theorem dX4_sends_110 : decode cX4_sends 110 = .ok (.iload_n 3, 1) := dk_29 (dk_at dksX4_sends_4 15 rfl rfl)
theorem dX4_sends_111 : decode cX4_sends 111 = .ok (.aload_n 2, 1) := dk_44 (dk_at dksX4_sends_4 16 rfl rfl)
theorem dX4_sends_112 : decode cX4_sends 112 = .ok (.aload_n 0, 1) := dk_42 (dk_at dksX4_sends_4 17 rfl rfl)
theorem dX4_sends_113 : decode cX4_sends 113 = .ok (.getfield 3, 3) := dk_180 0 3 (dk_at dksX4_sends_4 18 rfl rfl)
theorem dX4_sends_116 : decode cX4_sends 116 = .ok (.getfield 25, 3) := dk_180 0 25 (dk_at dksX4_sends_4 21 rfl rfl)
theorem dX4_sends_119 : decode cX4_sends 119 = .ok (.iload_n 3, 1) := dk_29 (dk_at dksX4_sends_5 0 rfl rfl)
theorem dX4_sends_120 : decode cX4_sends 120 = .ok (.iload_n 1, 1) := dk_27 (dk_at dksX4_sends_5 1 rfl rfl)
theorem dX4_sends_121 : decode cX4_sends 121 = .ok (.invokestatic 53, 3) := dk_184 0 53 (dk_at dksX4_sends_5 2 rfl rfl)
theorem dX4_sends_124 : decode cX4_sends 124 = .ok (.iaload, 1) := dk_46 (dk_at dksX4_sends_5 5 rfl rfl)
theorem dX4_sends_125 : decode cX4_sends 125 = .ok (.iastore, 1) := dk_79 (dk_at dksX4_sends_5 6 rfl rfl)
theorem dX4_sends_126 : decode cX4_sends 126 = .ok (.iinc 3 1, 3) := dk_132 3 1 (dk_at dksX4_sends_5 7 rfl rfl)
theorem dX4_sends_129 : decode cX4_sends 129 = .ok (.goto (-34), 3) := dk_167 255 222 (dk_at dksX4_sends_5 10 rfl rfl)
theorem dX4_sends_132 : decode cX4_sends 132 = .ok (.aload_n 0, 1) := dk_42 (dk_at dksX4_sends_5 13 rfl rfl)
theorem dX4_sends_133 : decode cX4_sends 133 = .ok (.iload_n 1, 1) := dk_27 (dk_at dksX4_sends_5 14 rfl rfl)
theorem dX4_sends_134 : decode cX4_sends 134 = .ok (.aload_n 0, 1) := dk_42 (dk_at dksX4_sends_5 15 rfl rfl)
theorem dX4_sends_135 : decode cX4_sends 135 = .ok (.getfield 15, 3) := dk_180 0 15 (dk_at dksX4_sends_5 16 rfl rfl)
theorem dX4_sends_138 : decode cX4_sends 138 = .ok (.invokevirtual 57, 3) := dk_182 0 57 (dk_at dksX4_sends_5 19 rfl rfl)
theorem dX4_sends_141 : decode cX4_sends 141 = .ok (.ireturn, 1) := dk_172 (dk_at dksX4_sends_5 22 rfl rfl)
theorem q45 : (Jvm.Cond.initialized "LadderCalls$Ahead") ∈ lw_all := lw_g (lw_at lw_m1 5 rfl) rfl
theorem q106 : (Jvm.Cond.instantiable "LadderCalls$Ahead" (4 : Nat)) ∈ lw_all := lw_g (lw_at lw_m1 66 rfl) rfl
theorem q108 : (Jvm.Cond.instanceMethod ({ cls := "LadderCalls$Ahead", name := "<init>", desc := "(LLadderCalls;)V" } : Jvm.MethodName)) ∈ lw_all := lw_g (lw_at lw_m1 68 rfl) rfl
theorem q109 : (Jvm.Cond.code ({ cls := "LadderCalls$Ahead", name := "<init>", desc := "(LLadderCalls;)V" } : Jvm.MethodName) prog_2_method_1_code (2 : Nat) (Option.none : Option Jvm.ClassFile.FieldType)) ∈ lw_all := lw_g (lw_at lw_m1 69 rfl) rfl
theorem q110 : (Jvm.Cond.methodLinkNest "LadderCalls$Ahead" (9 : Nat) ({ cls := "LadderCalls$Even", name := "<init>", desc := "(LLadderCalls;)V" } : Jvm.MethodName) "LadderCalls") ∈ lw_tbl := lw_at lw_m1 70 rfl
theorem q111 : (Jvm.Cond.fieldLink "LadderCalls$Ahead" (15 : Nat) "LadderCalls$Ahead" "works" "[I") ∈ lw_all := lw_g (lw_at lw_m1 71 rfl) rfl
theorem q112 : (Jvm.Cond.fieldLink "LadderCalls$Ahead" (3 : Nat) "LadderCalls$Ahead" "this$0" "LLadderCalls;") ∈ lw_all := lw_g (lw_at lw_m1 72 rfl) rfl
theorem q113 : (Jvm.Cond.laysFinal "LadderCalls$Ahead" "LadderCalls$Ahead" "works" "[I") ∈ lw_all := lw_g (lw_at lw_m1 73 rfl) rfl
theorem q114 : (Jvm.Cond.soleField "LadderCalls$Ahead" "works") ∈ lw_all := lw_g (lw_at lw_m1 74 rfl) rfl
theorem q115 : (Jvm.Cond.laysFinal "LadderCalls$Ahead" "LadderCalls$Ahead" "this$0" "LLadderCalls;") ∈ lw_all := lw_g (lw_at lw_m1 75 rfl) rfl
theorem q116 : (Jvm.Cond.soleField "LadderCalls$Ahead" "this$0") ∈ lw_all := lw_g (lw_at lw_m1 76 rfl) rfl
theorem q117 : (Jvm.Cond.laysFinal "LadderCalls$Ahead" "LadderCalls$Even" "this$0" "LLadderCalls;") ∈ lw_all := lw_g (lw_at lw_m1 77 rfl) rfl
theorem q118 : (Jvm.Cond.laysFinal "LadderCalls$Ahead" "LadderCalls$Near" "this$0" "LLadderCalls;") ∈ lw_all := lw_g (lw_at lw_m1 78 rfl) rfl
theorem q119 : (Jvm.Cond.superclass "LadderCalls$Ahead" "LadderCalls$Even") ∈ lw_all := lw_g (lw_at lw_m1 79 rfl) rfl
theorem q130 : (Jvm.Cond.fieldLinkNest "LadderCalls$Ahead" (19 : Nat) "LadderCalls" "trace" "J" "LadderCalls") ∈ lw_tbl := lw_at lw_m1 90 rfl
theorem q137 : (Jvm.Cond.fieldLinkNest "LadderCalls$Ahead" (29 : Nat) "LadderCalls" "ladders" "I" "LadderCalls") ∈ lw_tbl := lw_at lw_m1 97 rfl
theorem q142 : (Jvm.Cond.fieldLinkNest "LadderCalls$Ahead" (25 : Nat) "LadderCalls" "now" "I" "LadderCalls") ∈ lw_tbl := lw_at lw_m1 102 rfl
theorem q151 : (Jvm.Cond.fieldLinkNest "LadderCalls$Ahead" (46 : Nat) "LadderCalls" "callMany" "I" "LadderCalls") ∈ lw_tbl := lw_at lw_m1 111 rfl
theorem q154 : (Jvm.Cond.fieldLinkNest "LadderCalls$Ahead" (43 : Nat) "LadderCalls" "calledAt" "[I" "LadderCalls") ∈ lw_tbl := lw_at lw_m1 114 rfl
theorem q304 : (Jvm.Cond.selects "LadderCalls$Ahead" ({ cls := "LadderCalls$Near", name := "kind", desc := "()I" } : Jvm.MethodName) ({ cls := "LadderCalls$Ahead", name := "kind", desc := "()I" } : Jvm.MethodName)) ∈ lw_all := lw_g (lw_at lw_m2 24 rfl) rfl
theorem q305 : (Jvm.Cond.instanceMethod ({ cls := "LadderCalls$Ahead", name := "kind", desc := "()I" } : Jvm.MethodName)) ∈ lw_all := lw_g (lw_at lw_m2 25 rfl) rfl
theorem q306 : (Jvm.Cond.code ({ cls := "LadderCalls$Ahead", name := "kind", desc := "()I" } : Jvm.MethodName) prog_2_method_2_code (1 : Nat) (Option.some Jvm.ClassFile.FieldType.int)) ∈ lw_all := lw_g (lw_at lw_m2 26 rfl) rfl
theorem q330 : (Jvm.Cond.castable "LadderCalls$Ahead" "LadderCalls$Sends") ∈ lw_tbl := lw_at lw_m2 50 rfl
theorem q331 : (Jvm.Cond.selects "LadderCalls$Ahead" ({ cls := "LadderCalls$Sends", name := "sends", desc := "(I)I" } : Jvm.MethodName) ({ cls := "LadderCalls$Ahead", name := "sends", desc := "(I)I" } : Jvm.MethodName)) ∈ lw_all := lw_g (lw_at lw_m2 51 rfl) rfl
theorem q332 : (Jvm.Cond.unhidden "LadderCalls$Ahead" "sends" "(I)I") ∈ lw_tbl := lw_at lw_m2 52 rfl
theorem q333 : (Jvm.Cond.instanceMethod ({ cls := "LadderCalls$Ahead", name := "sends", desc := "(I)I" } : Jvm.MethodName)) ∈ lw_all := lw_g (lw_at lw_m2 53 rfl) rfl
theorem q334 : (Jvm.Cond.publicMethod ({ cls := "LadderCalls$Ahead", name := "sends", desc := "(I)I" } : Jvm.MethodName)) ∈ lw_tbl := lw_at lw_m2 54 rfl
theorem q335 : (Jvm.Cond.code ({ cls := "LadderCalls$Ahead", name := "sends", desc := "(I)I" } : Jvm.MethodName) prog_2_method_3_code (4 : Nat) (Option.some Jvm.ClassFile.FieldType.int)) ∈ lw_all := lw_g (lw_at lw_m2 55 rfl) rfl
theorem q336 : (Jvm.Cond.constantLong "LadderCalls$Ahead" (23 : Nat) (1000 : Int64)) ∈ lw_all := lw_g (lw_at lw_m2 56 rfl) rfl
theorem q338 : (Jvm.Cond.unhidden "LadderCalls$Ahead" "has" "(III)Z") ∈ lw_tbl := lw_at lw_m2 58 rfl
theorem q342 : (Jvm.Cond.methodLink "LadderCalls$Ahead" (36 : Nat) ({ cls := "LadderCalls$Ahead", name := "nearest", desc := "(I)I" } : Jvm.MethodName)) ∈ lw_all := lw_g (lw_at lw_m2 62 rfl) rfl
theorem q343 : (Jvm.Cond.sameMethod "LadderCalls$Ahead" "LadderCalls$Near" "nearest" "(I)I") ∈ lw_all := lw_g (lw_at lw_m2 63 rfl) rfl
theorem q345 : (Jvm.Cond.selects "LadderCalls$Ahead" ({ cls := "LadderCalls$Ahead", name := "nearest", desc := "(I)I" } : Jvm.MethodName) ({ cls := "LadderCalls$Near", name := "nearest", desc := "(I)I" } : Jvm.MethodName)) ∈ lw_all := lw_g (lw_at lw_m2 65 rfl) rfl
theorem q352 : (Jvm.Cond.selects "LadderCalls$Ahead" ({ cls := "LadderCalls$Near", name := "least", desc := "(I[I)I" } : Jvm.MethodName) ({ cls := "LadderCalls$Near", name := "least", desc := "(I[I)I" } : Jvm.MethodName)) ∈ lw_all := lw_g (lw_at lw_m2 72 rfl) rfl
theorem q358 : (Jvm.Cond.methodLink "LadderCalls$Ahead" (40 : Nat) ({ cls := "LadderCalls$Even", name := "sends", desc := "(I)I" } : Jvm.MethodName)) ∈ lw_all := lw_g (lw_at lw_m2 78 rfl) rfl
theorem q370 : (Jvm.Cond.selects "LadderCalls$Ahead" ({ cls := "LadderCalls$Even", name := "least", desc := "(I[I)I" } : Jvm.MethodName) ({ cls := "LadderCalls$Near", name := "least", desc := "(I[I)I" } : Jvm.MethodName)) ∈ lw_all := lw_g (lw_at lw_m2 90 rfl) rfl
theorem q372 : (Jvm.Cond.methodLinkNest "LadderCalls$Ahead" (49 : Nat) ({ cls := "LadderCalls", name := "workOf", desc := "(I)[I" } : Jvm.MethodName) "LadderCalls") ∈ lw_tbl := lw_at lw_m2 92 rfl
theorem q390 : (Jvm.Cond.methodLinkNest "LadderCalls$Ahead" (53 : Nat) ({ cls := "LadderCalls", name := "moved", desc := "(III)I" } : Jvm.MethodName) "LadderCalls") ∈ lw_tbl := lw_at lw_m2 110 rfl
theorem q391 : (Jvm.Cond.methodLink "LadderCalls$Ahead" (57 : Nat) ({ cls := "LadderCalls$Ahead", name := "least", desc := "(I[I)I" } : Jvm.MethodName)) ∈ lw_all := lw_g (lw_at lw_m2 111 rfl) rfl
theorem q392 : (Jvm.Cond.sameMethod "LadderCalls$Ahead" "LadderCalls$Near" "least" "(I[I)I") ∈ lw_all := lw_g (lw_at lw_m2 112 rfl) rfl
theorem q393 : (Jvm.Cond.selects "LadderCalls$Ahead" ({ cls := "LadderCalls$Ahead", name := "least", desc := "(I[I)I" } : Jvm.MethodName) ({ cls := "LadderCalls$Near", name := "least", desc := "(I[I)I" } : Jvm.MethodName)) ∈ lw_all := lw_g (lw_at lw_m2 113 rfl) rfl
theorem q419 : (Jvm.Cond.selects "LadderCalls$Ahead" ({ cls := "LadderCalls$Near", name := "went", desc := "(IZ)V" } : Jvm.MethodName) ({ cls := "LadderCalls$Near", name := "went", desc := "(IZ)V" } : Jvm.MethodName)) ∈ lw_all := lw_g (lw_at lw_m2 139 rfl) rfl
theorem q1132 : (Jvm.Cond.selects "LadderCalls$Ahead" ({ cls := "LadderCalls$Near", name := "nearest", desc := "(I)I" } : Jvm.MethodName) ({ cls := "LadderCalls$Near", name := "nearest", desc := "(I)I" } : Jvm.MethodName)) ∈ lw_all := lw_g (lw_at lw_m5 132 rfl) rfl
theorem q1136 : (Jvm.Cond.selects "LadderCalls$Ahead" ({ cls := "LadderCalls$Near", name := "sends", desc := "(I)I" } : Jvm.MethodName) ({ cls := "LadderCalls$Ahead", name := "sends", desc := "(I)I" } : Jvm.MethodName)) ∈ lw_all := lw_g (lw_at lw_m5 136 rfl) rfl
theorem q1143 : (Jvm.Cond.castable "LadderCalls$Ahead" "LadderCalls$Near") ∈ lw_tbl := lw_at lw_m5 143 rfl
theorem in_X4 : ∀ w ∈ wsX40, w ∈ lw_all := lw_in wsX40 [118, 117, 113, 115] (by decide +kernel) (by decide +kernel)
/-! LadderCalls$Book -/
set_option maxRecDepth 100000
def RX6 : String := "LadderCalls$Book"
abbrev cX6_init : ByteArray := prog_3_method_1_code
def yX6_init : MethodName := ⟨RX6, "<init>", "()V"⟩
theorem dX6_init_0 : decode cX6_init 0 = .ok (.aload_n 0, 1) := by decide +kernel
theorem dX6_init_1 : decode cX6_init 1 = .ok (.invokespecial 1, 3) := by decide +kernel
theorem dX6_init_4 : decode cX6_init 4 = .ok (.return_, 1) := by decide +kernel
theorem q54 : (Jvm.Cond.initialized "LadderCalls$Book") ∈ lw_all := lw_g (lw_at lw_m1 14 rfl) rfl
theorem q603 : (Jvm.Cond.instanceMethod ({ cls := "LadderCalls$Book", name := "<init>", desc := "()V" } : Jvm.MethodName)) ∈ lw_all := lw_g (lw_at lw_m3 83 rfl) rfl
theorem q604 : (Jvm.Cond.code ({ cls := "LadderCalls$Book", name := "<init>", desc := "()V" } : Jvm.MethodName) prog_3_method_1_code (1 : Nat) (Option.none : Option Jvm.ClassFile.FieldType)) ∈ lw_all := lw_g (lw_at lw_m3 84 rfl) rfl
theorem q605 : (Jvm.Cond.methodLink "LadderCalls$Book" (1 : Nat) ({ cls := "java/lang/Object", name := "<init>", desc := "()V" } : Jvm.MethodName)) ∈ lw_all := lw_g (lw_at lw_m3 85 rfl) rfl
theorem q704 : (Jvm.Cond.declares ({ cls := "LadderCalls$Book", name := "make", desc := "(II)V" } : Jvm.MethodName)) ∈ lw_tbl := lw_at lw_m3 184 rfl
theorem q705 : (Jvm.Cond.sameMethod "LadderCalls$Book" "LadderCalls$Book" "make" "(II)V") ∈ lw_all := lw_g (lw_at lw_m3 185 rfl) rfl
theorem q753 : (Jvm.Cond.declares ({ cls := "LadderCalls$Book", name := "rows", desc := "()I" } : Jvm.MethodName)) ∈ lw_tbl := lw_at lw_m3 233 rfl
theorem q754 : (Jvm.Cond.sameMethod "LadderCalls$Book" "LadderCalls$Book" "rows" "()I") ∈ lw_all := lw_g (lw_at lw_m3 234 rfl) rfl
theorem q772 : (Jvm.Cond.declares ({ cls := "LadderCalls$Book", name := "get", desc := "(II)J" } : Jvm.MethodName)) ∈ lw_tbl := lw_at lw_m4 12 rfl
theorem q773 : (Jvm.Cond.sameMethod "LadderCalls$Book" "LadderCalls$Book" "get" "(II)J") ∈ lw_all := lw_g (lw_at lw_m4 13 rfl) rfl
theorem q795 : (Jvm.Cond.declares ({ cls := "LadderCalls$Book", name := "size", desc := "(I)I" } : Jvm.MethodName)) ∈ lw_tbl := lw_at lw_m4 35 rfl
theorem q796 : (Jvm.Cond.sameMethod "LadderCalls$Book" "LadderCalls$Book" "size" "(I)I") ∈ lw_all := lw_g (lw_at lw_m4 36 rfl) rfl
/-! LadderCalls$Bytes -/
set_option maxRecDepth 100000
def RX7 : String := "LadderCalls$Bytes"
def TX7 : u_T := fun k => match k with
  | _ => ("LadderCalls$Bytes", "rows", "[[B", true)
def tyX7 : Nat → FieldType := fun k => match k with
  | _ => .array (.array .byte)
abbrev wsX70 : List Cond := u_ws RX7 TX7 1
theorem nmX7 : ∀ a, a < 1 → ∀ b, b < 1 → a ≠ b → (TX7 a).2.1 ≠ (TX7 b).2.1 := by decide +kernel
theorem tyX7_ok : ∀ k, k < 1 → parseFieldDescriptor (TX7 k).2.2.1 = some (tyX7 k) := by decide +kernel
abbrev cX7_init : ByteArray := prog_4_method_1_code
def yX7_init : MethodName := ⟨RX7, "<init>", "(I)V"⟩
def dkwX7_init_0 : List UInt8 := [42, 183, 0, 1, 42, 27, 189, 0, 7, 181, 0, 9, 177]
abbrev dktX7_init_0 : List UInt8 := dkwX7_init_0 ++ []
theorem dksX7_init_0 : cX7_init.data.toList.drop 0 = dktX7_init_0 := by decide +kernel
theorem dX7_init_0 : decode cX7_init 0 = .ok (.aload_n 0, 1) := dk_42 (dk_at dksX7_init_0 0 rfl rfl)
theorem dX7_init_1 : decode cX7_init 1 = .ok (.invokespecial 1, 3) := dk_183 0 1 (dk_at dksX7_init_0 1 rfl rfl)
theorem dX7_init_4 : decode cX7_init 4 = .ok (.aload_n 0, 1) := dk_42 (dk_at dksX7_init_0 4 rfl rfl)
theorem dX7_init_5 : decode cX7_init 5 = .ok (.iload_n 1, 1) := dk_27 (dk_at dksX7_init_0 5 rfl rfl)
theorem dX7_init_6 : decode cX7_init 6 = .ok (.anewarray 7, 3) := dk_189 0 7 (dk_at dksX7_init_0 6 rfl rfl)
theorem dX7_init_9 : decode cX7_init 9 = .ok (.putfield 9, 3) := dk_181 0 9 (dk_at dksX7_init_0 9 rfl rfl)
theorem dX7_init_12 : decode cX7_init 12 = .ok (.return_, 1) := dk_177 (dk_at dksX7_init_0 12 rfl rfl)
abbrev cX7_make : ByteArray := prog_4_method_3_code
def yX7_make : MethodName := ⟨RX7, "make", "(II)V"⟩
def dkwX7_make_0 : List UInt8 := [42, 180, 0, 9, 27, 50, 78, 42, 180, 0, 9, 27, 28, 188, 8, 83, 177]
abbrev dktX7_make_0 : List UInt8 := dkwX7_make_0 ++ []
theorem dksX7_make_0 : cX7_make.data.toList.drop 0 = dktX7_make_0 := by decide +kernel
theorem dX7_make_0 : decode cX7_make 0 = .ok (.aload_n 0, 1) := dk_42 (dk_at dksX7_make_0 0 rfl rfl)
theorem dX7_make_1 : decode cX7_make 1 = .ok (.getfield 9, 3) := dk_180 0 9 (dk_at dksX7_make_0 1 rfl rfl)
theorem dX7_make_4 : decode cX7_make 4 = .ok (.iload_n 1, 1) := dk_27 (dk_at dksX7_make_0 4 rfl rfl)
theorem dX7_make_5 : decode cX7_make 5 = .ok (.aaload, 1) := dk_50 (dk_at dksX7_make_0 5 rfl rfl)
theorem dX7_make_6 : decode cX7_make 6 = .ok (.astore_n 3, 1) := dk_78 (dk_at dksX7_make_0 6 rfl rfl)
theorem dX7_make_7 : decode cX7_make 7 = .ok (.aload_n 0, 1) := dk_42 (dk_at dksX7_make_0 7 rfl rfl)
theorem dX7_make_8 : decode cX7_make 8 = .ok (.getfield 9, 3) := dk_180 0 9 (dk_at dksX7_make_0 8 rfl rfl)
theorem dX7_make_11 : decode cX7_make 11 = .ok (.iload_n 1, 1) := dk_27 (dk_at dksX7_make_0 11 rfl rfl)
theorem dX7_make_12 : decode cX7_make 12 = .ok (.iload_n 2, 1) := dk_28 (dk_at dksX7_make_0 12 rfl rfl)
theorem dX7_make_13 : decode cX7_make 13 = .ok (.newarray .byte, 2) := dk_188_8 (dk_at dksX7_make_0 13 rfl rfl)
theorem dX7_make_15 : decode cX7_make 15 = .ok (.aastore, 1) := dk_83 (dk_at dksX7_make_0 15 rfl rfl)
theorem dX7_make_16 : decode cX7_make 16 = .ok (.return_, 1) := dk_177 (dk_at dksX7_make_0 16 rfl rfl)
abbrev cX7_rows : ByteArray := prog_4_method_2_code
def yX7_rows : MethodName := ⟨RX7, "rows", "()I"⟩
def dkwX7_rows_0 : List UInt8 := [42, 180, 0, 9, 190, 172]
abbrev dktX7_rows_0 : List UInt8 := dkwX7_rows_0 ++ []
theorem dksX7_rows_0 : cX7_rows.data.toList.drop 0 = dktX7_rows_0 := by decide +kernel
theorem dX7_rows_0 : decode cX7_rows 0 = .ok (.aload_n 0, 1) := dk_42 (dk_at dksX7_rows_0 0 rfl rfl)
theorem dX7_rows_1 : decode cX7_rows 1 = .ok (.getfield 9, 3) := dk_180 0 9 (dk_at dksX7_rows_0 1 rfl rfl)
theorem dX7_rows_4 : decode cX7_rows 4 = .ok (.arraylength, 1) := dk_190 (dk_at dksX7_rows_0 4 rfl rfl)
theorem dX7_rows_5 : decode cX7_rows 5 = .ok (.ireturn, 1) := dk_172 (dk_at dksX7_rows_0 5 rfl rfl)
abbrev cX7_get : ByteArray := prog_4_method_5_code
def yX7_get : MethodName := ⟨RX7, "get", "(II)J"⟩
def dkwX7_get_0 : List UInt8 := [42, 180, 0, 9, 27, 50, 28, 51, 133, 173]
abbrev dktX7_get_0 : List UInt8 := dkwX7_get_0 ++ []
theorem dksX7_get_0 : cX7_get.data.toList.drop 0 = dktX7_get_0 := by decide +kernel
theorem dX7_get_0 : decode cX7_get 0 = .ok (.aload_n 0, 1) := dk_42 (dk_at dksX7_get_0 0 rfl rfl)
theorem dX7_get_1 : decode cX7_get 1 = .ok (.getfield 9, 3) := dk_180 0 9 (dk_at dksX7_get_0 1 rfl rfl)
theorem dX7_get_4 : decode cX7_get 4 = .ok (.iload_n 1, 1) := dk_27 (dk_at dksX7_get_0 4 rfl rfl)
theorem dX7_get_5 : decode cX7_get 5 = .ok (.aaload, 1) := dk_50 (dk_at dksX7_get_0 5 rfl rfl)
theorem dX7_get_6 : decode cX7_get 6 = .ok (.iload_n 2, 1) := dk_28 (dk_at dksX7_get_0 6 rfl rfl)
theorem dX7_get_7 : decode cX7_get 7 = .ok (.baload, 1) := dk_51 (dk_at dksX7_get_0 7 rfl rfl)
theorem dX7_get_8 : decode cX7_get 8 = .ok (.i2l, 1) := dk_133 (dk_at dksX7_get_0 8 rfl rfl)
theorem dX7_get_9 : decode cX7_get 9 = .ok (.lreturn, 1) := dk_173 (dk_at dksX7_get_0 9 rfl rfl)
abbrev cX7_size : ByteArray := prog_4_method_4_code
def yX7_size : MethodName := ⟨RX7, "size", "(I)I"⟩
def dkwX7_size_0 : List UInt8 := [42, 180, 0, 9, 27, 50, 190, 172]
abbrev dktX7_size_0 : List UInt8 := dkwX7_size_0 ++ []
theorem dksX7_size_0 : cX7_size.data.toList.drop 0 = dktX7_size_0 := by decide +kernel
theorem dX7_size_0 : decode cX7_size 0 = .ok (.aload_n 0, 1) := dk_42 (dk_at dksX7_size_0 0 rfl rfl)
theorem dX7_size_1 : decode cX7_size 1 = .ok (.getfield 9, 3) := dk_180 0 9 (dk_at dksX7_size_0 1 rfl rfl)
theorem dX7_size_4 : decode cX7_size 4 = .ok (.iload_n 1, 1) := dk_27 (dk_at dksX7_size_0 4 rfl rfl)
theorem dX7_size_5 : decode cX7_size 5 = .ok (.aaload, 1) := dk_50 (dk_at dksX7_size_0 5 rfl rfl)
theorem dX7_size_6 : decode cX7_size 6 = .ok (.arraylength, 1) := dk_190 (dk_at dksX7_size_0 6 rfl rfl)
theorem dX7_size_7 : decode cX7_size 7 = .ok (.ireturn, 1) := dk_172 (dk_at dksX7_size_0 7 rfl rfl)
theorem q55 : (Jvm.Cond.initialized "LadderCalls$Bytes") ∈ lw_all := lw_g (lw_at lw_m1 15 rfl) rfl
theorem q598 : (Jvm.Cond.instantiable "LadderCalls$Bytes" (1 : Nat)) ∈ lw_all := lw_g (lw_at lw_m3 78 rfl) rfl
theorem q600 : (Jvm.Cond.instanceMethod ({ cls := "LadderCalls$Bytes", name := "<init>", desc := "(I)V" } : Jvm.MethodName)) ∈ lw_all := lw_g (lw_at lw_m3 80 rfl) rfl
theorem q601 : (Jvm.Cond.code ({ cls := "LadderCalls$Bytes", name := "<init>", desc := "(I)V" } : Jvm.MethodName) prog_4_method_1_code (2 : Nat) (Option.none : Option Jvm.ClassFile.FieldType)) ∈ lw_all := lw_g (lw_at lw_m3 81 rfl) rfl
theorem q602 : (Jvm.Cond.methodLinkNest "LadderCalls$Bytes" (1 : Nat) ({ cls := "LadderCalls$Book", name := "<init>", desc := "()V" } : Jvm.MethodName) "LadderCalls") ∈ lw_tbl := lw_at lw_m3 82 rfl
theorem q606 : (Jvm.Cond.classLink "LadderCalls$Bytes" (7 : Nat) "[B") ∈ lw_all := lw_g (lw_at lw_m3 86 rfl) rfl
theorem q608 : (Jvm.Cond.fieldLink "LadderCalls$Bytes" (9 : Nat) "LadderCalls$Bytes" "rows" "[[B") ∈ lw_all := lw_g (lw_at lw_m3 88 rfl) rfl
theorem q610 : (Jvm.Cond.laysFinal "LadderCalls$Bytes" "LadderCalls$Bytes" "rows" "[[B") ∈ lw_all := lw_g (lw_at lw_m3 90 rfl) rfl
theorem q611 : (Jvm.Cond.soleField "LadderCalls$Bytes" "rows") ∈ lw_all := lw_g (lw_at lw_m3 91 rfl) rfl
theorem q612 : (Jvm.Cond.superclass "LadderCalls$Bytes" "LadderCalls$Book") ∈ lw_all := lw_g (lw_at lw_m3 92 rfl) rfl
theorem q706 : (Jvm.Cond.selects "LadderCalls$Bytes" ({ cls := "LadderCalls$Book", name := "make", desc := "(II)V" } : Jvm.MethodName) ({ cls := "LadderCalls$Bytes", name := "make", desc := "(II)V" } : Jvm.MethodName)) ∈ lw_all := lw_g (lw_at lw_m3 186 rfl) rfl
theorem q707 : (Jvm.Cond.instanceMethod ({ cls := "LadderCalls$Bytes", name := "make", desc := "(II)V" } : Jvm.MethodName)) ∈ lw_all := lw_g (lw_at lw_m3 187 rfl) rfl
theorem q708 : (Jvm.Cond.code ({ cls := "LadderCalls$Bytes", name := "make", desc := "(II)V" } : Jvm.MethodName) prog_4_method_3_code (4 : Nat) (Option.none : Option Jvm.ClassFile.FieldType)) ∈ lw_all := lw_g (lw_at lw_m3 188 rfl) rfl
theorem q755 : (Jvm.Cond.selects "LadderCalls$Bytes" ({ cls := "LadderCalls$Book", name := "rows", desc := "()I" } : Jvm.MethodName) ({ cls := "LadderCalls$Bytes", name := "rows", desc := "()I" } : Jvm.MethodName)) ∈ lw_all := lw_g (lw_at lw_m3 235 rfl) rfl
theorem q756 : (Jvm.Cond.instanceMethod ({ cls := "LadderCalls$Bytes", name := "rows", desc := "()I" } : Jvm.MethodName)) ∈ lw_all := lw_g (lw_at lw_m3 236 rfl) rfl
theorem q757 : (Jvm.Cond.code ({ cls := "LadderCalls$Bytes", name := "rows", desc := "()I" } : Jvm.MethodName) prog_4_method_2_code (1 : Nat) (Option.some Jvm.ClassFile.FieldType.int)) ∈ lw_all := lw_g (lw_at lw_m3 237 rfl) rfl
theorem q774 : (Jvm.Cond.selects "LadderCalls$Bytes" ({ cls := "LadderCalls$Book", name := "get", desc := "(II)J" } : Jvm.MethodName) ({ cls := "LadderCalls$Bytes", name := "get", desc := "(II)J" } : Jvm.MethodName)) ∈ lw_all := lw_g (lw_at lw_m4 14 rfl) rfl
theorem q775 : (Jvm.Cond.instanceMethod ({ cls := "LadderCalls$Bytes", name := "get", desc := "(II)J" } : Jvm.MethodName)) ∈ lw_all := lw_g (lw_at lw_m4 15 rfl) rfl
theorem q776 : (Jvm.Cond.code ({ cls := "LadderCalls$Bytes", name := "get", desc := "(II)J" } : Jvm.MethodName) prog_4_method_5_code (3 : Nat) (Option.some Jvm.ClassFile.FieldType.long)) ∈ lw_all := lw_g (lw_at lw_m4 16 rfl) rfl
theorem q797 : (Jvm.Cond.selects "LadderCalls$Bytes" ({ cls := "LadderCalls$Book", name := "size", desc := "(I)I" } : Jvm.MethodName) ({ cls := "LadderCalls$Bytes", name := "size", desc := "(I)I" } : Jvm.MethodName)) ∈ lw_all := lw_g (lw_at lw_m4 37 rfl) rfl
theorem q798 : (Jvm.Cond.instanceMethod ({ cls := "LadderCalls$Bytes", name := "size", desc := "(I)I" } : Jvm.MethodName)) ∈ lw_all := lw_g (lw_at lw_m4 38 rfl) rfl
theorem q799 : (Jvm.Cond.code ({ cls := "LadderCalls$Bytes", name := "size", desc := "(I)I" } : Jvm.MethodName) prog_4_method_4_code (2 : Nat) (Option.some Jvm.ClassFile.FieldType.int)) ∈ lw_all := lw_g (lw_at lw_m4 39 rfl) rfl
theorem q1144 : (Jvm.Cond.castable "LadderCalls$Bytes" "LadderCalls$Book") ∈ lw_tbl := lw_at lw_m5 144 rfl
theorem in_X7 : ∀ w ∈ wsX70, w ∈ lw_all := lw_in wsX70 [610] (by decide +kernel) (by decide +kernel)
/-! LadderCalls$Shorts -/
set_option maxRecDepth 100000
def RX8 : String := "LadderCalls$Shorts"
def TX8 : u_T := fun k => match k with
  | _ => ("LadderCalls$Shorts", "rows", "[[S", true)
def tyX8 : Nat → FieldType := fun k => match k with
  | _ => .array (.array .short)
abbrev wsX80 : List Cond := u_ws RX8 TX8 1
theorem nmX8 : ∀ a, a < 1 → ∀ b, b < 1 → a ≠ b → (TX8 a).2.1 ≠ (TX8 b).2.1 := by decide +kernel
theorem tyX8_ok : ∀ k, k < 1 → parseFieldDescriptor (TX8 k).2.2.1 = some (tyX8 k) := by decide +kernel
abbrev cX8_init : ByteArray := prog_10_method_1_code
def yX8_init : MethodName := ⟨RX8, "<init>", "(I)V"⟩
def dkwX8_init_0 : List UInt8 := [42, 183, 0, 1, 42, 27, 189, 0, 7, 181, 0, 9, 177]
abbrev dktX8_init_0 : List UInt8 := dkwX8_init_0 ++ []
theorem dksX8_init_0 : cX8_init.data.toList.drop 0 = dktX8_init_0 := by decide +kernel
theorem dX8_init_0 : decode cX8_init 0 = .ok (.aload_n 0, 1) := dk_42 (dk_at dksX8_init_0 0 rfl rfl)
theorem dX8_init_1 : decode cX8_init 1 = .ok (.invokespecial 1, 3) := dk_183 0 1 (dk_at dksX8_init_0 1 rfl rfl)
theorem dX8_init_4 : decode cX8_init 4 = .ok (.aload_n 0, 1) := dk_42 (dk_at dksX8_init_0 4 rfl rfl)
theorem dX8_init_5 : decode cX8_init 5 = .ok (.iload_n 1, 1) := dk_27 (dk_at dksX8_init_0 5 rfl rfl)
theorem dX8_init_6 : decode cX8_init 6 = .ok (.anewarray 7, 3) := dk_189 0 7 (dk_at dksX8_init_0 6 rfl rfl)
theorem dX8_init_9 : decode cX8_init 9 = .ok (.putfield 9, 3) := dk_181 0 9 (dk_at dksX8_init_0 9 rfl rfl)
theorem dX8_init_12 : decode cX8_init 12 = .ok (.return_, 1) := dk_177 (dk_at dksX8_init_0 12 rfl rfl)
abbrev cX8_make : ByteArray := prog_10_method_3_code
def yX8_make : MethodName := ⟨RX8, "make", "(II)V"⟩
def dkwX8_make_0 : List UInt8 := [42, 180, 0, 9, 27, 50, 78, 42, 180, 0, 9, 27, 28, 188, 9, 83, 177]
abbrev dktX8_make_0 : List UInt8 := dkwX8_make_0 ++ []
theorem dksX8_make_0 : cX8_make.data.toList.drop 0 = dktX8_make_0 := by decide +kernel
theorem dX8_make_0 : decode cX8_make 0 = .ok (.aload_n 0, 1) := dk_42 (dk_at dksX8_make_0 0 rfl rfl)
theorem dX8_make_1 : decode cX8_make 1 = .ok (.getfield 9, 3) := dk_180 0 9 (dk_at dksX8_make_0 1 rfl rfl)
theorem dX8_make_4 : decode cX8_make 4 = .ok (.iload_n 1, 1) := dk_27 (dk_at dksX8_make_0 4 rfl rfl)
theorem dX8_make_5 : decode cX8_make 5 = .ok (.aaload, 1) := dk_50 (dk_at dksX8_make_0 5 rfl rfl)
theorem dX8_make_6 : decode cX8_make 6 = .ok (.astore_n 3, 1) := dk_78 (dk_at dksX8_make_0 6 rfl rfl)
theorem dX8_make_7 : decode cX8_make 7 = .ok (.aload_n 0, 1) := dk_42 (dk_at dksX8_make_0 7 rfl rfl)
theorem dX8_make_8 : decode cX8_make 8 = .ok (.getfield 9, 3) := dk_180 0 9 (dk_at dksX8_make_0 8 rfl rfl)
theorem dX8_make_11 : decode cX8_make 11 = .ok (.iload_n 1, 1) := dk_27 (dk_at dksX8_make_0 11 rfl rfl)
theorem dX8_make_12 : decode cX8_make 12 = .ok (.iload_n 2, 1) := dk_28 (dk_at dksX8_make_0 12 rfl rfl)
theorem dX8_make_13 : decode cX8_make 13 = .ok (.newarray .short, 2) := dk_188_9 (dk_at dksX8_make_0 13 rfl rfl)
theorem dX8_make_15 : decode cX8_make 15 = .ok (.aastore, 1) := dk_83 (dk_at dksX8_make_0 15 rfl rfl)
theorem dX8_make_16 : decode cX8_make 16 = .ok (.return_, 1) := dk_177 (dk_at dksX8_make_0 16 rfl rfl)
abbrev cX8_rows : ByteArray := prog_10_method_2_code
def yX8_rows : MethodName := ⟨RX8, "rows", "()I"⟩
def dkwX8_rows_0 : List UInt8 := [42, 180, 0, 9, 190, 172]
abbrev dktX8_rows_0 : List UInt8 := dkwX8_rows_0 ++ []
theorem dksX8_rows_0 : cX8_rows.data.toList.drop 0 = dktX8_rows_0 := by decide +kernel
theorem dX8_rows_0 : decode cX8_rows 0 = .ok (.aload_n 0, 1) := dk_42 (dk_at dksX8_rows_0 0 rfl rfl)
theorem dX8_rows_1 : decode cX8_rows 1 = .ok (.getfield 9, 3) := dk_180 0 9 (dk_at dksX8_rows_0 1 rfl rfl)
theorem dX8_rows_4 : decode cX8_rows 4 = .ok (.arraylength, 1) := dk_190 (dk_at dksX8_rows_0 4 rfl rfl)
theorem dX8_rows_5 : decode cX8_rows 5 = .ok (.ireturn, 1) := dk_172 (dk_at dksX8_rows_0 5 rfl rfl)
abbrev cX8_get : ByteArray := prog_10_method_5_code
def yX8_get : MethodName := ⟨RX8, "get", "(II)J"⟩
def dkwX8_get_0 : List UInt8 := [42, 180, 0, 9, 27, 50, 28, 53, 133, 173]
abbrev dktX8_get_0 : List UInt8 := dkwX8_get_0 ++ []
theorem dksX8_get_0 : cX8_get.data.toList.drop 0 = dktX8_get_0 := by decide +kernel
theorem dX8_get_0 : decode cX8_get 0 = .ok (.aload_n 0, 1) := dk_42 (dk_at dksX8_get_0 0 rfl rfl)
theorem dX8_get_1 : decode cX8_get 1 = .ok (.getfield 9, 3) := dk_180 0 9 (dk_at dksX8_get_0 1 rfl rfl)
theorem dX8_get_4 : decode cX8_get 4 = .ok (.iload_n 1, 1) := dk_27 (dk_at dksX8_get_0 4 rfl rfl)
theorem dX8_get_5 : decode cX8_get 5 = .ok (.aaload, 1) := dk_50 (dk_at dksX8_get_0 5 rfl rfl)
theorem dX8_get_6 : decode cX8_get 6 = .ok (.iload_n 2, 1) := dk_28 (dk_at dksX8_get_0 6 rfl rfl)
theorem dX8_get_7 : decode cX8_get 7 = .ok (.saload, 1) := dk_53 (dk_at dksX8_get_0 7 rfl rfl)
theorem dX8_get_8 : decode cX8_get 8 = .ok (.i2l, 1) := dk_133 (dk_at dksX8_get_0 8 rfl rfl)
theorem dX8_get_9 : decode cX8_get 9 = .ok (.lreturn, 1) := dk_173 (dk_at dksX8_get_0 9 rfl rfl)
abbrev cX8_size : ByteArray := prog_10_method_4_code
def yX8_size : MethodName := ⟨RX8, "size", "(I)I"⟩
def dkwX8_size_0 : List UInt8 := [42, 180, 0, 9, 27, 50, 190, 172]
abbrev dktX8_size_0 : List UInt8 := dkwX8_size_0 ++ []
theorem dksX8_size_0 : cX8_size.data.toList.drop 0 = dktX8_size_0 := by decide +kernel
theorem dX8_size_0 : decode cX8_size 0 = .ok (.aload_n 0, 1) := dk_42 (dk_at dksX8_size_0 0 rfl rfl)
theorem dX8_size_1 : decode cX8_size 1 = .ok (.getfield 9, 3) := dk_180 0 9 (dk_at dksX8_size_0 1 rfl rfl)
theorem dX8_size_4 : decode cX8_size 4 = .ok (.iload_n 1, 1) := dk_27 (dk_at dksX8_size_0 4 rfl rfl)
theorem dX8_size_5 : decode cX8_size 5 = .ok (.aaload, 1) := dk_50 (dk_at dksX8_size_0 5 rfl rfl)
theorem dX8_size_6 : decode cX8_size 6 = .ok (.arraylength, 1) := dk_190 (dk_at dksX8_size_0 6 rfl rfl)
theorem dX8_size_7 : decode cX8_size 7 = .ok (.ireturn, 1) := dk_172 (dk_at dksX8_size_0 7 rfl rfl)
theorem q56 : (Jvm.Cond.initialized "LadderCalls$Shorts") ∈ lw_all := lw_g (lw_at lw_m1 16 rfl) rfl
theorem q614 : (Jvm.Cond.instantiable "LadderCalls$Shorts" (1 : Nat)) ∈ lw_all := lw_g (lw_at lw_m3 94 rfl) rfl
theorem q616 : (Jvm.Cond.instanceMethod ({ cls := "LadderCalls$Shorts", name := "<init>", desc := "(I)V" } : Jvm.MethodName)) ∈ lw_all := lw_g (lw_at lw_m3 96 rfl) rfl
theorem q617 : (Jvm.Cond.code ({ cls := "LadderCalls$Shorts", name := "<init>", desc := "(I)V" } : Jvm.MethodName) prog_10_method_1_code (2 : Nat) (Option.none : Option Jvm.ClassFile.FieldType)) ∈ lw_all := lw_g (lw_at lw_m3 97 rfl) rfl
theorem q618 : (Jvm.Cond.methodLinkNest "LadderCalls$Shorts" (1 : Nat) ({ cls := "LadderCalls$Book", name := "<init>", desc := "()V" } : Jvm.MethodName) "LadderCalls") ∈ lw_tbl := lw_at lw_m3 98 rfl
theorem q619 : (Jvm.Cond.classLink "LadderCalls$Shorts" (7 : Nat) "[S") ∈ lw_all := lw_g (lw_at lw_m3 99 rfl) rfl
theorem q621 : (Jvm.Cond.fieldLink "LadderCalls$Shorts" (9 : Nat) "LadderCalls$Shorts" "rows" "[[S") ∈ lw_all := lw_g (lw_at lw_m3 101 rfl) rfl
theorem q623 : (Jvm.Cond.laysFinal "LadderCalls$Shorts" "LadderCalls$Shorts" "rows" "[[S") ∈ lw_all := lw_g (lw_at lw_m3 103 rfl) rfl
theorem q624 : (Jvm.Cond.soleField "LadderCalls$Shorts" "rows") ∈ lw_all := lw_g (lw_at lw_m3 104 rfl) rfl
theorem q625 : (Jvm.Cond.superclass "LadderCalls$Shorts" "LadderCalls$Book") ∈ lw_all := lw_g (lw_at lw_m3 105 rfl) rfl
theorem q715 : (Jvm.Cond.selects "LadderCalls$Shorts" ({ cls := "LadderCalls$Book", name := "make", desc := "(II)V" } : Jvm.MethodName) ({ cls := "LadderCalls$Shorts", name := "make", desc := "(II)V" } : Jvm.MethodName)) ∈ lw_all := lw_g (lw_at lw_m3 195 rfl) rfl
theorem q716 : (Jvm.Cond.instanceMethod ({ cls := "LadderCalls$Shorts", name := "make", desc := "(II)V" } : Jvm.MethodName)) ∈ lw_all := lw_g (lw_at lw_m3 196 rfl) rfl
theorem q717 : (Jvm.Cond.code ({ cls := "LadderCalls$Shorts", name := "make", desc := "(II)V" } : Jvm.MethodName) prog_10_method_3_code (4 : Nat) (Option.none : Option Jvm.ClassFile.FieldType)) ∈ lw_all := lw_g (lw_at lw_m3 197 rfl) rfl
theorem q764 : (Jvm.Cond.selects "LadderCalls$Shorts" ({ cls := "LadderCalls$Book", name := "rows", desc := "()I" } : Jvm.MethodName) ({ cls := "LadderCalls$Shorts", name := "rows", desc := "()I" } : Jvm.MethodName)) ∈ lw_all := lw_g (lw_at lw_m4 4 rfl) rfl
theorem q765 : (Jvm.Cond.instanceMethod ({ cls := "LadderCalls$Shorts", name := "rows", desc := "()I" } : Jvm.MethodName)) ∈ lw_all := lw_g (lw_at lw_m4 5 rfl) rfl
theorem q766 : (Jvm.Cond.code ({ cls := "LadderCalls$Shorts", name := "rows", desc := "()I" } : Jvm.MethodName) prog_10_method_2_code (1 : Nat) (Option.some Jvm.ClassFile.FieldType.int)) ∈ lw_all := lw_g (lw_at lw_m4 6 rfl) rfl
theorem q783 : (Jvm.Cond.selects "LadderCalls$Shorts" ({ cls := "LadderCalls$Book", name := "get", desc := "(II)J" } : Jvm.MethodName) ({ cls := "LadderCalls$Shorts", name := "get", desc := "(II)J" } : Jvm.MethodName)) ∈ lw_all := lw_g (lw_at lw_m4 23 rfl) rfl
theorem q784 : (Jvm.Cond.instanceMethod ({ cls := "LadderCalls$Shorts", name := "get", desc := "(II)J" } : Jvm.MethodName)) ∈ lw_all := lw_g (lw_at lw_m4 24 rfl) rfl
theorem q785 : (Jvm.Cond.code ({ cls := "LadderCalls$Shorts", name := "get", desc := "(II)J" } : Jvm.MethodName) prog_10_method_5_code (3 : Nat) (Option.some Jvm.ClassFile.FieldType.long)) ∈ lw_all := lw_g (lw_at lw_m4 25 rfl) rfl
theorem q806 : (Jvm.Cond.selects "LadderCalls$Shorts" ({ cls := "LadderCalls$Book", name := "size", desc := "(I)I" } : Jvm.MethodName) ({ cls := "LadderCalls$Shorts", name := "size", desc := "(I)I" } : Jvm.MethodName)) ∈ lw_all := lw_g (lw_at lw_m4 46 rfl) rfl
theorem q807 : (Jvm.Cond.instanceMethod ({ cls := "LadderCalls$Shorts", name := "size", desc := "(I)I" } : Jvm.MethodName)) ∈ lw_all := lw_g (lw_at lw_m4 47 rfl) rfl
theorem q808 : (Jvm.Cond.code ({ cls := "LadderCalls$Shorts", name := "size", desc := "(I)I" } : Jvm.MethodName) prog_10_method_4_code (2 : Nat) (Option.some Jvm.ClassFile.FieldType.int)) ∈ lw_all := lw_g (lw_at lw_m4 48 rfl) rfl
theorem q1145 : (Jvm.Cond.castable "LadderCalls$Shorts" "LadderCalls$Book") ∈ lw_tbl := lw_at lw_m5 145 rfl
theorem in_X8 : ∀ w ∈ wsX80, w ∈ lw_all := lw_in wsX80 [623] (by decide +kernel) (by decide +kernel)
/-! LadderCalls$Ints -/
set_option maxRecDepth 100000
def RX9 : String := "LadderCalls$Ints"
def TX9 : u_T := fun k => match k with
  | _ => ("LadderCalls$Ints", "rows", "[[I", true)
def tyX9 : Nat → FieldType := fun k => match k with
  | _ => .array (.array .int)
abbrev wsX90 : List Cond := u_ws RX9 TX9 1
theorem nmX9 : ∀ a, a < 1 → ∀ b, b < 1 → a ≠ b → (TX9 a).2.1 ≠ (TX9 b).2.1 := by decide +kernel
theorem tyX9_ok : ∀ k, k < 1 → parseFieldDescriptor (TX9 k).2.2.1 = some (tyX9 k) := by decide +kernel
abbrev cX9_init : ByteArray := prog_6_method_1_code
def yX9_init : MethodName := ⟨RX9, "<init>", "(I)V"⟩
def dkwX9_init_0 : List UInt8 := [42, 183, 0, 1, 42, 27, 189, 0, 7, 181, 0, 9, 177]
abbrev dktX9_init_0 : List UInt8 := dkwX9_init_0 ++ []
theorem dksX9_init_0 : cX9_init.data.toList.drop 0 = dktX9_init_0 := by decide +kernel
theorem dX9_init_0 : decode cX9_init 0 = .ok (.aload_n 0, 1) := dk_42 (dk_at dksX9_init_0 0 rfl rfl)
theorem dX9_init_1 : decode cX9_init 1 = .ok (.invokespecial 1, 3) := dk_183 0 1 (dk_at dksX9_init_0 1 rfl rfl)
theorem dX9_init_4 : decode cX9_init 4 = .ok (.aload_n 0, 1) := dk_42 (dk_at dksX9_init_0 4 rfl rfl)
theorem dX9_init_5 : decode cX9_init 5 = .ok (.iload_n 1, 1) := dk_27 (dk_at dksX9_init_0 5 rfl rfl)
theorem dX9_init_6 : decode cX9_init 6 = .ok (.anewarray 7, 3) := dk_189 0 7 (dk_at dksX9_init_0 6 rfl rfl)
theorem dX9_init_9 : decode cX9_init 9 = .ok (.putfield 9, 3) := dk_181 0 9 (dk_at dksX9_init_0 9 rfl rfl)
theorem dX9_init_12 : decode cX9_init 12 = .ok (.return_, 1) := dk_177 (dk_at dksX9_init_0 12 rfl rfl)
abbrev cX9_make : ByteArray := prog_6_method_3_code
def yX9_make : MethodName := ⟨RX9, "make", "(II)V"⟩
def dkwX9_make_0 : List UInt8 := [42, 180, 0, 9, 27, 50, 78, 42, 180, 0, 9, 27, 28, 188, 10, 83, 177]
abbrev dktX9_make_0 : List UInt8 := dkwX9_make_0 ++ []
theorem dksX9_make_0 : cX9_make.data.toList.drop 0 = dktX9_make_0 := by decide +kernel
theorem dX9_make_0 : decode cX9_make 0 = .ok (.aload_n 0, 1) := dk_42 (dk_at dksX9_make_0 0 rfl rfl)
theorem dX9_make_1 : decode cX9_make 1 = .ok (.getfield 9, 3) := dk_180 0 9 (dk_at dksX9_make_0 1 rfl rfl)
theorem dX9_make_4 : decode cX9_make 4 = .ok (.iload_n 1, 1) := dk_27 (dk_at dksX9_make_0 4 rfl rfl)
theorem dX9_make_5 : decode cX9_make 5 = .ok (.aaload, 1) := dk_50 (dk_at dksX9_make_0 5 rfl rfl)
theorem dX9_make_6 : decode cX9_make 6 = .ok (.astore_n 3, 1) := dk_78 (dk_at dksX9_make_0 6 rfl rfl)
theorem dX9_make_7 : decode cX9_make 7 = .ok (.aload_n 0, 1) := dk_42 (dk_at dksX9_make_0 7 rfl rfl)
theorem dX9_make_8 : decode cX9_make 8 = .ok (.getfield 9, 3) := dk_180 0 9 (dk_at dksX9_make_0 8 rfl rfl)
theorem dX9_make_11 : decode cX9_make 11 = .ok (.iload_n 1, 1) := dk_27 (dk_at dksX9_make_0 11 rfl rfl)
theorem dX9_make_12 : decode cX9_make 12 = .ok (.iload_n 2, 1) := dk_28 (dk_at dksX9_make_0 12 rfl rfl)
theorem dX9_make_13 : decode cX9_make 13 = .ok (.newarray .int, 2) := dk_188_10 (dk_at dksX9_make_0 13 rfl rfl)
theorem dX9_make_15 : decode cX9_make 15 = .ok (.aastore, 1) := dk_83 (dk_at dksX9_make_0 15 rfl rfl)
theorem dX9_make_16 : decode cX9_make 16 = .ok (.return_, 1) := dk_177 (dk_at dksX9_make_0 16 rfl rfl)
abbrev cX9_rows : ByteArray := prog_6_method_2_code
def yX9_rows : MethodName := ⟨RX9, "rows", "()I"⟩
def dkwX9_rows_0 : List UInt8 := [42, 180, 0, 9, 190, 172]
abbrev dktX9_rows_0 : List UInt8 := dkwX9_rows_0 ++ []
theorem dksX9_rows_0 : cX9_rows.data.toList.drop 0 = dktX9_rows_0 := by decide +kernel
theorem dX9_rows_0 : decode cX9_rows 0 = .ok (.aload_n 0, 1) := dk_42 (dk_at dksX9_rows_0 0 rfl rfl)
theorem dX9_rows_1 : decode cX9_rows 1 = .ok (.getfield 9, 3) := dk_180 0 9 (dk_at dksX9_rows_0 1 rfl rfl)
theorem dX9_rows_4 : decode cX9_rows 4 = .ok (.arraylength, 1) := dk_190 (dk_at dksX9_rows_0 4 rfl rfl)
theorem dX9_rows_5 : decode cX9_rows 5 = .ok (.ireturn, 1) := dk_172 (dk_at dksX9_rows_0 5 rfl rfl)
abbrev cX9_get : ByteArray := prog_6_method_5_code
def yX9_get : MethodName := ⟨RX9, "get", "(II)J"⟩
def dkwX9_get_0 : List UInt8 := [42, 180, 0, 9, 27, 50, 28, 46, 133, 173]
abbrev dktX9_get_0 : List UInt8 := dkwX9_get_0 ++ []
theorem dksX9_get_0 : cX9_get.data.toList.drop 0 = dktX9_get_0 := by decide +kernel
theorem dX9_get_0 : decode cX9_get 0 = .ok (.aload_n 0, 1) := dk_42 (dk_at dksX9_get_0 0 rfl rfl)
theorem dX9_get_1 : decode cX9_get 1 = .ok (.getfield 9, 3) := dk_180 0 9 (dk_at dksX9_get_0 1 rfl rfl)
theorem dX9_get_4 : decode cX9_get 4 = .ok (.iload_n 1, 1) := dk_27 (dk_at dksX9_get_0 4 rfl rfl)
theorem dX9_get_5 : decode cX9_get 5 = .ok (.aaload, 1) := dk_50 (dk_at dksX9_get_0 5 rfl rfl)
theorem dX9_get_6 : decode cX9_get 6 = .ok (.iload_n 2, 1) := dk_28 (dk_at dksX9_get_0 6 rfl rfl)
theorem dX9_get_7 : decode cX9_get 7 = .ok (.iaload, 1) := dk_46 (dk_at dksX9_get_0 7 rfl rfl)
theorem dX9_get_8 : decode cX9_get 8 = .ok (.i2l, 1) := dk_133 (dk_at dksX9_get_0 8 rfl rfl)
theorem dX9_get_9 : decode cX9_get 9 = .ok (.lreturn, 1) := dk_173 (dk_at dksX9_get_0 9 rfl rfl)
abbrev cX9_size : ByteArray := prog_6_method_4_code
def yX9_size : MethodName := ⟨RX9, "size", "(I)I"⟩
def dkwX9_size_0 : List UInt8 := [42, 180, 0, 9, 27, 50, 190, 172]
abbrev dktX9_size_0 : List UInt8 := dkwX9_size_0 ++ []
theorem dksX9_size_0 : cX9_size.data.toList.drop 0 = dktX9_size_0 := by decide +kernel
theorem dX9_size_0 : decode cX9_size 0 = .ok (.aload_n 0, 1) := dk_42 (dk_at dksX9_size_0 0 rfl rfl)
theorem dX9_size_1 : decode cX9_size 1 = .ok (.getfield 9, 3) := dk_180 0 9 (dk_at dksX9_size_0 1 rfl rfl)
theorem dX9_size_4 : decode cX9_size 4 = .ok (.iload_n 1, 1) := dk_27 (dk_at dksX9_size_0 4 rfl rfl)
theorem dX9_size_5 : decode cX9_size 5 = .ok (.aaload, 1) := dk_50 (dk_at dksX9_size_0 5 rfl rfl)
theorem dX9_size_6 : decode cX9_size 6 = .ok (.arraylength, 1) := dk_190 (dk_at dksX9_size_0 6 rfl rfl)
theorem dX9_size_7 : decode cX9_size 7 = .ok (.ireturn, 1) := dk_172 (dk_at dksX9_size_0 7 rfl rfl)
theorem q57 : (Jvm.Cond.initialized "LadderCalls$Ints") ∈ lw_all := lw_g (lw_at lw_m1 17 rfl) rfl
theorem q627 : (Jvm.Cond.instantiable "LadderCalls$Ints" (1 : Nat)) ∈ lw_all := lw_g (lw_at lw_m3 107 rfl) rfl
theorem q629 : (Jvm.Cond.instanceMethod ({ cls := "LadderCalls$Ints", name := "<init>", desc := "(I)V" } : Jvm.MethodName)) ∈ lw_all := lw_g (lw_at lw_m3 109 rfl) rfl
theorem q630 : (Jvm.Cond.code ({ cls := "LadderCalls$Ints", name := "<init>", desc := "(I)V" } : Jvm.MethodName) prog_6_method_1_code (2 : Nat) (Option.none : Option Jvm.ClassFile.FieldType)) ∈ lw_all := lw_g (lw_at lw_m3 110 rfl) rfl
theorem q631 : (Jvm.Cond.methodLinkNest "LadderCalls$Ints" (1 : Nat) ({ cls := "LadderCalls$Book", name := "<init>", desc := "()V" } : Jvm.MethodName) "LadderCalls") ∈ lw_tbl := lw_at lw_m3 111 rfl
theorem q632 : (Jvm.Cond.classLink "LadderCalls$Ints" (7 : Nat) "[I") ∈ lw_all := lw_g (lw_at lw_m3 112 rfl) rfl
theorem q633 : (Jvm.Cond.fieldLink "LadderCalls$Ints" (9 : Nat) "LadderCalls$Ints" "rows" "[[I") ∈ lw_all := lw_g (lw_at lw_m3 113 rfl) rfl
theorem q635 : (Jvm.Cond.laysFinal "LadderCalls$Ints" "LadderCalls$Ints" "rows" "[[I") ∈ lw_all := lw_g (lw_at lw_m3 115 rfl) rfl
theorem q636 : (Jvm.Cond.soleField "LadderCalls$Ints" "rows") ∈ lw_all := lw_g (lw_at lw_m3 116 rfl) rfl
theorem q637 : (Jvm.Cond.superclass "LadderCalls$Ints" "LadderCalls$Book") ∈ lw_all := lw_g (lw_at lw_m3 117 rfl) rfl
theorem q709 : (Jvm.Cond.selects "LadderCalls$Ints" ({ cls := "LadderCalls$Book", name := "make", desc := "(II)V" } : Jvm.MethodName) ({ cls := "LadderCalls$Ints", name := "make", desc := "(II)V" } : Jvm.MethodName)) ∈ lw_all := lw_g (lw_at lw_m3 189 rfl) rfl
theorem q710 : (Jvm.Cond.instanceMethod ({ cls := "LadderCalls$Ints", name := "make", desc := "(II)V" } : Jvm.MethodName)) ∈ lw_all := lw_g (lw_at lw_m3 190 rfl) rfl
theorem q711 : (Jvm.Cond.code ({ cls := "LadderCalls$Ints", name := "make", desc := "(II)V" } : Jvm.MethodName) prog_6_method_3_code (4 : Nat) (Option.none : Option Jvm.ClassFile.FieldType)) ∈ lw_all := lw_g (lw_at lw_m3 191 rfl) rfl
theorem q758 : (Jvm.Cond.selects "LadderCalls$Ints" ({ cls := "LadderCalls$Book", name := "rows", desc := "()I" } : Jvm.MethodName) ({ cls := "LadderCalls$Ints", name := "rows", desc := "()I" } : Jvm.MethodName)) ∈ lw_all := lw_g (lw_at lw_m3 238 rfl) rfl
theorem q759 : (Jvm.Cond.instanceMethod ({ cls := "LadderCalls$Ints", name := "rows", desc := "()I" } : Jvm.MethodName)) ∈ lw_all := lw_g (lw_at lw_m3 239 rfl) rfl
theorem q760 : (Jvm.Cond.code ({ cls := "LadderCalls$Ints", name := "rows", desc := "()I" } : Jvm.MethodName) prog_6_method_2_code (1 : Nat) (Option.some Jvm.ClassFile.FieldType.int)) ∈ lw_all := lw_g (lw_at lw_m4 0 rfl) rfl
theorem q777 : (Jvm.Cond.selects "LadderCalls$Ints" ({ cls := "LadderCalls$Book", name := "get", desc := "(II)J" } : Jvm.MethodName) ({ cls := "LadderCalls$Ints", name := "get", desc := "(II)J" } : Jvm.MethodName)) ∈ lw_all := lw_g (lw_at lw_m4 17 rfl) rfl
theorem q778 : (Jvm.Cond.instanceMethod ({ cls := "LadderCalls$Ints", name := "get", desc := "(II)J" } : Jvm.MethodName)) ∈ lw_all := lw_g (lw_at lw_m4 18 rfl) rfl
theorem q779 : (Jvm.Cond.code ({ cls := "LadderCalls$Ints", name := "get", desc := "(II)J" } : Jvm.MethodName) prog_6_method_5_code (3 : Nat) (Option.some Jvm.ClassFile.FieldType.long)) ∈ lw_all := lw_g (lw_at lw_m4 19 rfl) rfl
theorem q800 : (Jvm.Cond.selects "LadderCalls$Ints" ({ cls := "LadderCalls$Book", name := "size", desc := "(I)I" } : Jvm.MethodName) ({ cls := "LadderCalls$Ints", name := "size", desc := "(I)I" } : Jvm.MethodName)) ∈ lw_all := lw_g (lw_at lw_m4 40 rfl) rfl
theorem q801 : (Jvm.Cond.instanceMethod ({ cls := "LadderCalls$Ints", name := "size", desc := "(I)I" } : Jvm.MethodName)) ∈ lw_all := lw_g (lw_at lw_m4 41 rfl) rfl
theorem q802 : (Jvm.Cond.code ({ cls := "LadderCalls$Ints", name := "size", desc := "(I)I" } : Jvm.MethodName) prog_6_method_4_code (2 : Nat) (Option.some Jvm.ClassFile.FieldType.int)) ∈ lw_all := lw_g (lw_at lw_m4 42 rfl) rfl
theorem q1146 : (Jvm.Cond.castable "LadderCalls$Ints" "LadderCalls$Book") ∈ lw_tbl := lw_at lw_m5 146 rfl
theorem in_X9 : ∀ w ∈ wsX90, w ∈ lw_all := lw_in wsX90 [635] (by decide +kernel) (by decide +kernel)
/-! LadderCalls$Longs -/
set_option maxRecDepth 100000
def RX10 : String := "LadderCalls$Longs"
def TX10 : u_T := fun k => match k with
  | _ => ("LadderCalls$Longs", "rows", "[[J", true)
def tyX10 : Nat → FieldType := fun k => match k with
  | _ => .array (.array .long)
abbrev wsX100 : List Cond := u_ws RX10 TX10 1
theorem nmX10 : ∀ a, a < 1 → ∀ b, b < 1 → a ≠ b → (TX10 a).2.1 ≠ (TX10 b).2.1 := by decide +kernel
theorem tyX10_ok : ∀ k, k < 1 → parseFieldDescriptor (TX10 k).2.2.1 = some (tyX10 k) := by decide +kernel
abbrev cX10_init : ByteArray := prog_7_method_1_code
def yX10_init : MethodName := ⟨RX10, "<init>", "(I)V"⟩
def dkwX10_init_0 : List UInt8 := [42, 183, 0, 1, 42, 27, 189, 0, 7, 181, 0, 9, 177]
abbrev dktX10_init_0 : List UInt8 := dkwX10_init_0 ++ []
theorem dksX10_init_0 : cX10_init.data.toList.drop 0 = dktX10_init_0 := by decide +kernel
theorem dX10_init_0 : decode cX10_init 0 = .ok (.aload_n 0, 1) := dk_42 (dk_at dksX10_init_0 0 rfl rfl)
theorem dX10_init_1 : decode cX10_init 1 = .ok (.invokespecial 1, 3) := dk_183 0 1 (dk_at dksX10_init_0 1 rfl rfl)
theorem dX10_init_4 : decode cX10_init 4 = .ok (.aload_n 0, 1) := dk_42 (dk_at dksX10_init_0 4 rfl rfl)
theorem dX10_init_5 : decode cX10_init 5 = .ok (.iload_n 1, 1) := dk_27 (dk_at dksX10_init_0 5 rfl rfl)
theorem dX10_init_6 : decode cX10_init 6 = .ok (.anewarray 7, 3) := dk_189 0 7 (dk_at dksX10_init_0 6 rfl rfl)
theorem dX10_init_9 : decode cX10_init 9 = .ok (.putfield 9, 3) := dk_181 0 9 (dk_at dksX10_init_0 9 rfl rfl)
theorem dX10_init_12 : decode cX10_init 12 = .ok (.return_, 1) := dk_177 (dk_at dksX10_init_0 12 rfl rfl)
abbrev cX10_make : ByteArray := prog_7_method_3_code
def yX10_make : MethodName := ⟨RX10, "make", "(II)V"⟩
def dkwX10_make_0 : List UInt8 := [42, 180, 0, 9, 27, 50, 78, 42, 180, 0, 9, 27, 28, 188, 11, 83, 177]
abbrev dktX10_make_0 : List UInt8 := dkwX10_make_0 ++ []
theorem dksX10_make_0 : cX10_make.data.toList.drop 0 = dktX10_make_0 := by decide +kernel
theorem dX10_make_0 : decode cX10_make 0 = .ok (.aload_n 0, 1) := dk_42 (dk_at dksX10_make_0 0 rfl rfl)
theorem dX10_make_1 : decode cX10_make 1 = .ok (.getfield 9, 3) := dk_180 0 9 (dk_at dksX10_make_0 1 rfl rfl)
theorem dX10_make_4 : decode cX10_make 4 = .ok (.iload_n 1, 1) := dk_27 (dk_at dksX10_make_0 4 rfl rfl)
theorem dX10_make_5 : decode cX10_make 5 = .ok (.aaload, 1) := dk_50 (dk_at dksX10_make_0 5 rfl rfl)
theorem dX10_make_6 : decode cX10_make 6 = .ok (.astore_n 3, 1) := dk_78 (dk_at dksX10_make_0 6 rfl rfl)
theorem dX10_make_7 : decode cX10_make 7 = .ok (.aload_n 0, 1) := dk_42 (dk_at dksX10_make_0 7 rfl rfl)
theorem dX10_make_8 : decode cX10_make 8 = .ok (.getfield 9, 3) := dk_180 0 9 (dk_at dksX10_make_0 8 rfl rfl)
theorem dX10_make_11 : decode cX10_make 11 = .ok (.iload_n 1, 1) := dk_27 (dk_at dksX10_make_0 11 rfl rfl)
theorem dX10_make_12 : decode cX10_make 12 = .ok (.iload_n 2, 1) := dk_28 (dk_at dksX10_make_0 12 rfl rfl)
theorem dX10_make_13 : decode cX10_make 13 = .ok (.newarray .long, 2) := dk_188_11 (dk_at dksX10_make_0 13 rfl rfl)
theorem dX10_make_15 : decode cX10_make 15 = .ok (.aastore, 1) := dk_83 (dk_at dksX10_make_0 15 rfl rfl)
theorem dX10_make_16 : decode cX10_make 16 = .ok (.return_, 1) := dk_177 (dk_at dksX10_make_0 16 rfl rfl)
abbrev cX10_rows : ByteArray := prog_7_method_2_code
def yX10_rows : MethodName := ⟨RX10, "rows", "()I"⟩
def dkwX10_rows_0 : List UInt8 := [42, 180, 0, 9, 190, 172]
abbrev dktX10_rows_0 : List UInt8 := dkwX10_rows_0 ++ []
theorem dksX10_rows_0 : cX10_rows.data.toList.drop 0 = dktX10_rows_0 := by decide +kernel
theorem dX10_rows_0 : decode cX10_rows 0 = .ok (.aload_n 0, 1) := dk_42 (dk_at dksX10_rows_0 0 rfl rfl)
theorem dX10_rows_1 : decode cX10_rows 1 = .ok (.getfield 9, 3) := dk_180 0 9 (dk_at dksX10_rows_0 1 rfl rfl)
theorem dX10_rows_4 : decode cX10_rows 4 = .ok (.arraylength, 1) := dk_190 (dk_at dksX10_rows_0 4 rfl rfl)
theorem dX10_rows_5 : decode cX10_rows 5 = .ok (.ireturn, 1) := dk_172 (dk_at dksX10_rows_0 5 rfl rfl)
abbrev cX10_get : ByteArray := prog_7_method_5_code
def yX10_get : MethodName := ⟨RX10, "get", "(II)J"⟩
def dkwX10_get_0 : List UInt8 := [42, 180, 0, 9, 27, 50, 28, 47, 173]
abbrev dktX10_get_0 : List UInt8 := dkwX10_get_0 ++ []
theorem dksX10_get_0 : cX10_get.data.toList.drop 0 = dktX10_get_0 := by decide +kernel
theorem dX10_get_0 : decode cX10_get 0 = .ok (.aload_n 0, 1) := dk_42 (dk_at dksX10_get_0 0 rfl rfl)
theorem dX10_get_1 : decode cX10_get 1 = .ok (.getfield 9, 3) := dk_180 0 9 (dk_at dksX10_get_0 1 rfl rfl)
theorem dX10_get_4 : decode cX10_get 4 = .ok (.iload_n 1, 1) := dk_27 (dk_at dksX10_get_0 4 rfl rfl)
theorem dX10_get_5 : decode cX10_get 5 = .ok (.aaload, 1) := dk_50 (dk_at dksX10_get_0 5 rfl rfl)
theorem dX10_get_6 : decode cX10_get 6 = .ok (.iload_n 2, 1) := dk_28 (dk_at dksX10_get_0 6 rfl rfl)
theorem dX10_get_7 : decode cX10_get 7 = .ok (.laload, 1) := dk_47 (dk_at dksX10_get_0 7 rfl rfl)
theorem dX10_get_8 : decode cX10_get 8 = .ok (.lreturn, 1) := dk_173 (dk_at dksX10_get_0 8 rfl rfl)
abbrev cX10_size : ByteArray := prog_7_method_4_code
def yX10_size : MethodName := ⟨RX10, "size", "(I)I"⟩
def dkwX10_size_0 : List UInt8 := [42, 180, 0, 9, 27, 50, 190, 172]
abbrev dktX10_size_0 : List UInt8 := dkwX10_size_0 ++ []
theorem dksX10_size_0 : cX10_size.data.toList.drop 0 = dktX10_size_0 := by decide +kernel
theorem dX10_size_0 : decode cX10_size 0 = .ok (.aload_n 0, 1) := dk_42 (dk_at dksX10_size_0 0 rfl rfl)
theorem dX10_size_1 : decode cX10_size 1 = .ok (.getfield 9, 3) := dk_180 0 9 (dk_at dksX10_size_0 1 rfl rfl)
theorem dX10_size_4 : decode cX10_size 4 = .ok (.iload_n 1, 1) := dk_27 (dk_at dksX10_size_0 4 rfl rfl)
theorem dX10_size_5 : decode cX10_size 5 = .ok (.aaload, 1) := dk_50 (dk_at dksX10_size_0 5 rfl rfl)
theorem dX10_size_6 : decode cX10_size 6 = .ok (.arraylength, 1) := dk_190 (dk_at dksX10_size_0 6 rfl rfl)
theorem dX10_size_7 : decode cX10_size 7 = .ok (.ireturn, 1) := dk_172 (dk_at dksX10_size_0 7 rfl rfl)
theorem q58 : (Jvm.Cond.initialized "LadderCalls$Longs") ∈ lw_all := lw_g (lw_at lw_m1 18 rfl) rfl
theorem q639 : (Jvm.Cond.instantiable "LadderCalls$Longs" (1 : Nat)) ∈ lw_all := lw_g (lw_at lw_m3 119 rfl) rfl
theorem q641 : (Jvm.Cond.instanceMethod ({ cls := "LadderCalls$Longs", name := "<init>", desc := "(I)V" } : Jvm.MethodName)) ∈ lw_all := lw_g (lw_at lw_m3 121 rfl) rfl
theorem q642 : (Jvm.Cond.code ({ cls := "LadderCalls$Longs", name := "<init>", desc := "(I)V" } : Jvm.MethodName) prog_7_method_1_code (2 : Nat) (Option.none : Option Jvm.ClassFile.FieldType)) ∈ lw_all := lw_g (lw_at lw_m3 122 rfl) rfl
theorem q643 : (Jvm.Cond.methodLinkNest "LadderCalls$Longs" (1 : Nat) ({ cls := "LadderCalls$Book", name := "<init>", desc := "()V" } : Jvm.MethodName) "LadderCalls") ∈ lw_tbl := lw_at lw_m3 123 rfl
theorem q644 : (Jvm.Cond.classLink "LadderCalls$Longs" (7 : Nat) "[J") ∈ lw_all := lw_g (lw_at lw_m3 124 rfl) rfl
theorem q646 : (Jvm.Cond.fieldLink "LadderCalls$Longs" (9 : Nat) "LadderCalls$Longs" "rows" "[[J") ∈ lw_all := lw_g (lw_at lw_m3 126 rfl) rfl
theorem q648 : (Jvm.Cond.laysFinal "LadderCalls$Longs" "LadderCalls$Longs" "rows" "[[J") ∈ lw_all := lw_g (lw_at lw_m3 128 rfl) rfl
theorem q649 : (Jvm.Cond.soleField "LadderCalls$Longs" "rows") ∈ lw_all := lw_g (lw_at lw_m3 129 rfl) rfl
theorem q650 : (Jvm.Cond.superclass "LadderCalls$Longs" "LadderCalls$Book") ∈ lw_all := lw_g (lw_at lw_m3 130 rfl) rfl
theorem q712 : (Jvm.Cond.selects "LadderCalls$Longs" ({ cls := "LadderCalls$Book", name := "make", desc := "(II)V" } : Jvm.MethodName) ({ cls := "LadderCalls$Longs", name := "make", desc := "(II)V" } : Jvm.MethodName)) ∈ lw_all := lw_g (lw_at lw_m3 192 rfl) rfl
theorem q713 : (Jvm.Cond.instanceMethod ({ cls := "LadderCalls$Longs", name := "make", desc := "(II)V" } : Jvm.MethodName)) ∈ lw_all := lw_g (lw_at lw_m3 193 rfl) rfl
theorem q714 : (Jvm.Cond.code ({ cls := "LadderCalls$Longs", name := "make", desc := "(II)V" } : Jvm.MethodName) prog_7_method_3_code (4 : Nat) (Option.none : Option Jvm.ClassFile.FieldType)) ∈ lw_all := lw_g (lw_at lw_m3 194 rfl) rfl
theorem q761 : (Jvm.Cond.selects "LadderCalls$Longs" ({ cls := "LadderCalls$Book", name := "rows", desc := "()I" } : Jvm.MethodName) ({ cls := "LadderCalls$Longs", name := "rows", desc := "()I" } : Jvm.MethodName)) ∈ lw_all := lw_g (lw_at lw_m4 1 rfl) rfl
theorem q762 : (Jvm.Cond.instanceMethod ({ cls := "LadderCalls$Longs", name := "rows", desc := "()I" } : Jvm.MethodName)) ∈ lw_all := lw_g (lw_at lw_m4 2 rfl) rfl
theorem q763 : (Jvm.Cond.code ({ cls := "LadderCalls$Longs", name := "rows", desc := "()I" } : Jvm.MethodName) prog_7_method_2_code (1 : Nat) (Option.some Jvm.ClassFile.FieldType.int)) ∈ lw_all := lw_g (lw_at lw_m4 3 rfl) rfl
theorem q780 : (Jvm.Cond.selects "LadderCalls$Longs" ({ cls := "LadderCalls$Book", name := "get", desc := "(II)J" } : Jvm.MethodName) ({ cls := "LadderCalls$Longs", name := "get", desc := "(II)J" } : Jvm.MethodName)) ∈ lw_all := lw_g (lw_at lw_m4 20 rfl) rfl
theorem q781 : (Jvm.Cond.instanceMethod ({ cls := "LadderCalls$Longs", name := "get", desc := "(II)J" } : Jvm.MethodName)) ∈ lw_all := lw_g (lw_at lw_m4 21 rfl) rfl
theorem q782 : (Jvm.Cond.code ({ cls := "LadderCalls$Longs", name := "get", desc := "(II)J" } : Jvm.MethodName) prog_7_method_5_code (3 : Nat) (Option.some Jvm.ClassFile.FieldType.long)) ∈ lw_all := lw_g (lw_at lw_m4 22 rfl) rfl
theorem q803 : (Jvm.Cond.selects "LadderCalls$Longs" ({ cls := "LadderCalls$Book", name := "size", desc := "(I)I" } : Jvm.MethodName) ({ cls := "LadderCalls$Longs", name := "size", desc := "(I)I" } : Jvm.MethodName)) ∈ lw_all := lw_g (lw_at lw_m4 43 rfl) rfl
theorem q804 : (Jvm.Cond.instanceMethod ({ cls := "LadderCalls$Longs", name := "size", desc := "(I)I" } : Jvm.MethodName)) ∈ lw_all := lw_g (lw_at lw_m4 44 rfl) rfl
theorem q805 : (Jvm.Cond.code ({ cls := "LadderCalls$Longs", name := "size", desc := "(I)I" } : Jvm.MethodName) prog_7_method_4_code (2 : Nat) (Option.some Jvm.ClassFile.FieldType.int)) ∈ lw_all := lw_g (lw_at lw_m4 45 rfl) rfl
theorem q1147 : (Jvm.Cond.castable "LadderCalls$Longs" "LadderCalls$Book") ∈ lw_tbl := lw_at lw_m5 147 rfl
theorem in_X10 : ∀ w ∈ wsX100, w ∈ lw_all := lw_in wsX100 [648] (by decide +kernel) (by decide +kernel)
/-! LadderCalls$Sends -/
set_option maxRecDepth 100000
def RX11 : String := "LadderCalls$Sends"
abbrev cX11_has : ByteArray := prog_9_method_2_code
def yX11_has : MethodName := ⟨RX11, "has", "(III)Z"⟩
def dkwX11_has_1 : List UInt8 := [16, 7, 126, 29, 160, 0, 7, 4, 167, 0, 4, 3, 54, 4, 132, 5, 1, 167, 255, 222, 21, 4, 172]
abbrev dktX11_has_1 : List UInt8 := dkwX11_has_1 ++ []
def dkwX11_has_0 : List UInt8 := [3, 54, 4, 3, 54, 5, 21, 5, 28, 162, 0, 34, 21, 4, 154, 0, 16, 27, 6, 21, 5, 104, 122]
abbrev dktX11_has_0 : List UInt8 := dkwX11_has_0 ++ dktX11_has_1
theorem dksX11_has_0 : cX11_has.data.toList.drop 0 = dktX11_has_0 := by decide +kernel
theorem dksX11_has_1 : cX11_has.data.toList.drop 23 = dktX11_has_1 := dk_seg dksX11_has_0 23 rfl rfl
theorem dX11_has_0 : decode cX11_has 0 = .ok (.iconst 0, 1) := dk_3 (dk_at dksX11_has_0 0 rfl rfl)
theorem dX11_has_1 : decode cX11_has 1 = .ok (.istore 4, 2) := dk_54 4 (dk_at dksX11_has_0 1 rfl rfl)
theorem dX11_has_3 : decode cX11_has 3 = .ok (.iconst 0, 1) := dk_3 (dk_at dksX11_has_0 3 rfl rfl)
theorem dX11_has_4 : decode cX11_has 4 = .ok (.istore 5, 2) := dk_54 5 (dk_at dksX11_has_0 4 rfl rfl)
theorem dX11_has_6 : decode cX11_has 6 = .ok (.iload 5, 2) := dk_21 5 (dk_at dksX11_has_0 6 rfl rfl)
theorem dX11_has_8 : decode cX11_has 8 = .ok (.iload_n 2, 1) := dk_28 (dk_at dksX11_has_0 8 rfl rfl)
theorem dX11_has_9 : decode cX11_has 9 = .ok (.if_icmp .ge 34, 3) := dk_162 0 34 (dk_at dksX11_has_0 9 rfl rfl)
theorem dX11_has_12 : decode cX11_has 12 = .ok (.iload 4, 2) := dk_21 4 (dk_at dksX11_has_0 12 rfl rfl)
theorem dX11_has_14 : decode cX11_has 14 = .ok (.ifCond .ne 16, 3) := dk_154 0 16 (dk_at dksX11_has_0 14 rfl rfl)
theorem dX11_has_17 : decode cX11_has 17 = .ok (.iload_n 1, 1) := dk_27 (dk_at dksX11_has_0 17 rfl rfl)
theorem dX11_has_18 : decode cX11_has 18 = .ok (.iconst 3, 1) := dk_6 (dk_at dksX11_has_0 18 rfl rfl)
theorem dX11_has_19 : decode cX11_has 19 = .ok (.iload 5, 2) := dk_21 5 (dk_at dksX11_has_0 19 rfl rfl)
theorem dX11_has_21 : decode cX11_has 21 = .ok (.imul, 1) := dk_104 (dk_at dksX11_has_0 21 rfl rfl)
theorem dX11_has_22 : decode cX11_has 22 = .ok (.ishr, 1) := dk_122 (dk_at dksX11_has_0 22 rfl rfl)
theorem dX11_has_23 : decode cX11_has 23 = .ok (.bipush 7, 2) := dk_16 7 (dk_at dksX11_has_1 0 rfl rfl)
theorem dX11_has_25 : decode cX11_has 25 = .ok (.iand, 1) := dk_126 (dk_at dksX11_has_1 2 rfl rfl)
theorem dX11_has_26 : decode cX11_has 26 = .ok (.iload_n 3, 1) := dk_29 (dk_at dksX11_has_1 3 rfl rfl)
theorem dX11_has_27 : decode cX11_has 27 = .ok (.if_icmp .ne 7, 3) := dk_160 0 7 (dk_at dksX11_has_1 4 rfl rfl)
theorem dX11_has_30 : decode cX11_has 30 = .ok (.iconst 1, 1) := dk_4 (dk_at dksX11_has_1 7 rfl rfl)
theorem dX11_has_31 : decode cX11_has 31 = .ok (.goto 4, 3) := dk_167 0 4 (dk_at dksX11_has_1 8 rfl rfl)
theorem dX11_has_34 : decode cX11_has 34 = .ok (.iconst 0, 1) := dk_3 (dk_at dksX11_has_1 11 rfl rfl)
theorem dX11_has_35 : decode cX11_has 35 = .ok (.istore 4, 2) := dk_54 4 (dk_at dksX11_has_1 12 rfl rfl)
theorem dX11_has_37 : decode cX11_has 37 = .ok (.iinc 5 1, 3) := dk_132 5 1 (dk_at dksX11_has_1 14 rfl rfl)
theorem dX11_has_40 : decode cX11_has 40 = .ok (.goto (-34), 3) := dk_167 255 222 (dk_at dksX11_has_1 17 rfl rfl)
theorem dX11_has_43 : decode cX11_has 43 = .ok (.iload 4, 2) := dk_21 4 (dk_at dksX11_has_1 20 rfl rfl)
theorem dX11_has_45 : decode cX11_has 45 = .ok (.ireturn, 1) := dk_172 (dk_at dksX11_has_1 22 rfl rfl)
theorem q328 : (Jvm.Cond.interfaceMethod "LadderCalls$Sends" "LadderCalls$Sends" "sends" "(I)I") ∈ lw_tbl := lw_at lw_m2 48 rfl
theorem q329 : (Jvm.Cond.declares ({ cls := "LadderCalls$Sends", name := "sends", desc := "(I)I" } : Jvm.MethodName)) ∈ lw_tbl := lw_at lw_m2 49 rfl
theorem q337 : (Jvm.Cond.declares ({ cls := "LadderCalls$Sends", name := "has", desc := "(III)Z" } : Jvm.MethodName)) ∈ lw_tbl := lw_at lw_m2 57 rfl
theorem q339 : (Jvm.Cond.instanceMethod ({ cls := "LadderCalls$Sends", name := "has", desc := "(III)Z" } : Jvm.MethodName)) ∈ lw_all := lw_g (lw_at lw_m2 59 rfl) rfl
theorem q340 : (Jvm.Cond.publicMethod ({ cls := "LadderCalls$Sends", name := "has", desc := "(III)Z" } : Jvm.MethodName)) ∈ lw_tbl := lw_at lw_m2 60 rfl
theorem q341 : (Jvm.Cond.code ({ cls := "LadderCalls$Sends", name := "has", desc := "(III)Z" } : Jvm.MethodName) prog_9_method_2_code (6 : Nat) (Option.some Jvm.ClassFile.FieldType.boolean)) ∈ lw_all := lw_g (lw_at lw_m2 61 rfl) rfl
theorem q413 : (Jvm.Cond.interfaceMethod "LadderCalls$Sends" "LadderCalls$Sends" "has" "(III)Z") ∈ lw_tbl := lw_at lw_m2 133 rfl
