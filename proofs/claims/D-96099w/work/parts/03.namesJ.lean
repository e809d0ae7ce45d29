/-! java/lang/Throwable -/
set_option maxRecDepth 100000
def RJ0 : String := "java/lang/Throwable"
def TJ0 : u_T := fun k => match k with
  | 0 => ("java/lang/Throwable", "cause", "Ljava/lang/Throwable;", false)
  | 1 => ("java/lang/Throwable", "stackTrace", "[Ljava/lang/StackTraceElement;", false)
  | 2 => ("java/lang/Throwable", "suppressedExceptions", "Ljava/util/List;", false)
  | 3 => ("java/lang/Throwable", "detailMessage", "Ljava/lang/String;", false)
  | _ => ("java/lang/Throwable", "backtrace", "Ljava/lang/Object;", false)
def tyJ0 : Nat → FieldType := fun k => match k with
  | 0 => .object "java/lang/Throwable"
  | 1 => .array (.object "java/lang/StackTraceElement")
  | 2 => .object "java/util/List"
  | 3 => .object "java/lang/String"
  | _ => .object "java/lang/Object"
abbrev wsJ00 : List Cond := u_ws RJ0 TJ0 5
theorem nmJ0 : ∀ a, a < 5 → ∀ b, b < 5 → a ≠ b → (TJ0 a).2.1 ≠ (TJ0 b).2.1 := by decide +kernel
theorem tyJ0_ok : ∀ k, k < 5 → parseFieldDescriptor (TJ0 k).2.2.1 = some (tyJ0 k) := by decide +kernel
abbrev cJ0_init : ByteArray := prog_31_method_1_code
def yJ0_init : MethodName := ⟨RJ0, "<init>", "()V"⟩
def dkwJ0_init_1 : List UInt8 := [182, 0, 27, 87, 177]
abbrev dktJ0_init_1 : List UInt8 := dkwJ0_init_1 ++ []
def dkwJ0_init_0 : List UInt8 := [42, 183, 0, 1, 42, 42, 181, 0, 7, 42, 178, 0, 13, 181, 0, 17, 42, 178, 0, 20, 181, 0, 24, 42]
abbrev dktJ0_init_0 : List UInt8 := dkwJ0_init_0 ++ dktJ0_init_1
theorem dksJ0_init_0 : cJ0_init.data.toList.drop 0 = dktJ0_init_0 := by decide +kernel
theorem dksJ0_init_1 : cJ0_init.data.toList.drop 24 = dktJ0_init_1 := dk_seg dksJ0_init_0 24 rfl rfl
theorem dJ0_init_0 : decode cJ0_init 0 = .ok (.aload_n 0, 1) := dk_42 (dk_at dksJ0_init_0 0 rfl rfl)
theorem dJ0_init_1 : decode cJ0_init 1 = .ok (.invokespecial 1, 3) := dk_183 0 1 (dk_at dksJ0_init_0 1 rfl rfl)
theorem dJ0_init_4 : decode cJ0_init 4 = .ok (.aload_n 0, 1) := dk_42 (dk_at dksJ0_init_0 4 rfl rfl)
theorem dJ0_init_5 : decode cJ0_init 5 = .ok (.aload_n 0, 1) := dk_42 (dk_at dksJ0_init_0 5 rfl rfl)
theorem dJ0_init_6 : decode cJ0_init 6 = .ok (.putfield 7, 3) := dk_181 0 7 (dk_at dksJ0_init_0 6 rfl rfl)
theorem dJ0_init_9 : decode cJ0_init 9 = .ok (.aload_n 0, 1) := dk_42 (dk_at dksJ0_init_0 9 rfl rfl)
theorem dJ0_init_10 : decode cJ0_init 10 = .ok (.getstatic 13, 3) := dk_178 0 13 (dk_at dksJ0_init_0 10 rfl rfl)
theorem dJ0_init_13 : decode cJ0_init 13 = .ok (.putfield 17, 3) := dk_181 0 17 (dk_at dksJ0_init_0 13 rfl rfl)
theorem dJ0_init_16 : decode cJ0_init 16 = .ok (.aload_n 0, 1) := dk_42 (dk_at dksJ0_init_0 16 rfl rfl)
theorem dJ0_init_17 : decode cJ0_init 17 = .ok (.getstatic 20, 3) := dk_178 0 20 (dk_at dksJ0_init_0 17 rfl rfl)
theorem dJ0_init_20 : decode cJ0_init 20 = .ok (.putfield 24, 3) := dk_181 0 24 (dk_at dksJ0_init_0 20 rfl rfl)
theorem dJ0_init_23 : decode cJ0_init 23 = .ok (.aload_n 0, 1) := dk_42 (dk_at dksJ0_init_0 23 rfl rfl)
theorem dJ0_init_24 : decode cJ0_init 24 = .ok (.invokevirtual 27, 3) := dk_182 0 27 (dk_at dksJ0_init_1 0 rfl rfl)
theorem dJ0_init_27 : decode cJ0_init 27 = .ok (.pop, 1) := dk_87 (dk_at dksJ0_init_1 3 rfl rfl)
theorem dJ0_init_28 : decode cJ0_init 28 = .ok (.return_, 1) := dk_177 (dk_at dksJ0_init_1 4 rfl rfl)
abbrev cJ0_init_2 : ByteArray := prog_31_method_5_code
def yJ0_init_2 : MethodName := ⟨RJ0, "<init>", "(Ljava/lang/String;Ljava/lang/Throwable;ZZ)V"⟩
def dkwJ0_init_2_2 : List UInt8 := [44, 181, 0, 7, 29, 154, 0, 8, 42, 1, 181, 0, 24, 177]
abbrev dktJ0_init_2_2 : List UInt8 := dkwJ0_init_2_2 ++ []
def dkwJ0_init_2_1 : List UInt8 := [21, 4, 153, 0, 11, 42, 182, 0, 27, 87, 167, 0, 8, 42, 1, 181, 0, 17, 42, 43, 181, 0, 31, 42]
abbrev dktJ0_init_2_1 : List UInt8 := dkwJ0_init_2_1 ++ dktJ0_init_2_2
def dkwJ0_init_2_0 : List UInt8 := [42, 183, 0, 1, 42, 42, 181, 0, 7, 42, 178, 0, 13, 181, 0, 17, 42, 178, 0, 20, 181, 0, 24]
abbrev dktJ0_init_2_0 : List UInt8 := dkwJ0_init_2_0 ++ dktJ0_init_2_1
theorem dksJ0_init_2_0 : cJ0_init_2.data.toList.drop 0 = dktJ0_init_2_0 := by decide +kernel
theorem dksJ0_init_2_1 : cJ0_init_2.data.toList.drop 23 = dktJ0_init_2_1 := dk_seg dksJ0_init_2_0 23 rfl rfl
theorem dksJ0_init_2_2 : cJ0_init_2.data.toList.drop 47 = dktJ0_init_2_2 := dk_seg dksJ0_init_2_1 24 rfl rfl
theorem dJ0_init_2_0 : decode cJ0_init_2 0 = .ok (.aload_n 0, 1) := dk_42 (dk_at dksJ0_init_2_0 0 rfl rfl)
theorem dJ0_init_2_1 : decode cJ0_init_2 1 = .ok (.invokespecial 1, 3) := dk_183 0 1 (dk_at dksJ0_init_2_0 1 rfl rfl)
theorem dJ0_init_2_4 : decode cJ0_init_2 4 = .ok (.aload_n 0, 1) := dk_42 (dk_at dksJ0_init_2_0 4 rfl rfl)
theorem dJ0_init_2_5 : decode cJ0_init_2 5 = .ok (.aload_n 0, 1) := dk_42 (dk_at dksJ0_init_2_0 5 rfl rfl)
theorem dJ0_init_2_6 : decode cJ0_init_2 6 = .ok (.putfield 7, 3) := dk_181 0 7 (dk_at dksJ0_init_2_0 6 rfl rfl)
theorem dJ0_init_2_9 : decode cJ0_init_2 9 = .ok (.aload_n 0, 1) := dk_42 (dk_at dksJ0_init_2_0 9 rfl rfl)
theorem dJ0_init_2_10 : decode cJ0_init_2 10 = .ok (.getstatic 13, 3) := dk_178 0 13 (dk_at dksJ0_init_2_0 10 rfl rfl)
theorem dJ0_init_2_13 : decode cJ0_init_2 13 = .ok (.putfield 17, 3) := dk_181 0 17 (dk_at dksJ0_init_2_0 13 rfl rfl)
theorem dJ0_init_2_16 : decode cJ0_init_2 16 = .ok (.aload_n 0, 1) := dk_42 (dk_at dksJ0_init_2_0 16 rfl rfl)
theorem dJ0_init_2_17 : decode cJ0_init_2 17 = .ok (.getstatic 20, 3) := dk_178 0 20 (dk_at dksJ0_init_2_0 17 rfl rfl)
theorem dJ0_init_2_20 : decode cJ0_init_2 20 = .ok (.putfield 24, 3) := dk_181 0 24 (dk_at dksJ0_init_2_0 20 rfl rfl)
theorem dJ0_init_2_23 : decode cJ0_init_2 23 = .ok (.iload 4, 2) := dk_21 4 (dk_at dksJ0_init_2_1 0 rfl rfl)
theorem dJ0_init_2_25 : decode cJ0_init_2 25 = .ok (.ifCond .eq 11, 3) := dk_153 0 11 (dk_at dksJ0_init_2_1 2 rfl rfl)
theorem dJ0_init_2_28 : decode cJ0_init_2 28 = .ok (.aload_n 0, 1) := dk_42 (dk_at dksJ0_init_2_1 5 rfl rfl)
theorem dJ0_init_2_29 : decode cJ0_init_2 29 = .ok (.invokevirtual 27, 3) := dk_182 0 27 (dk_at dksJ0_init_2_1 6 rfl rfl)
theorem dJ0_init_2_32 : decode cJ0_init_2 32 = .ok (.pop, 1) := dk_87 (dk_at dksJ0_init_2_1 9 rfl rfl)
theorem dJ0_init_2_33 : decode cJ0_init_2 33 = .ok (.goto 8, 3) := dk_167 0 8 (dk_at dksJ0_init_2_1 10 rfl rfl)
theorem dJ0_init_2_36 : decode cJ0_init_2 36 = .ok (.aload_n 0, 1) := dk_42 (dk_at dksJ0_init_2_1 13 rfl rfl)
theorem dJ0_init_2_37 : decode cJ0_init_2 37 = .ok (.aconst_null, 1) := dk_1 (dk_at dksJ0_init_2_1 14 rfl rfl)
theorem dJ0_init_2_38 : decode cJ0_init_2 38 = .ok (.putfield 17, 3) := dk_181 0 17 (dk_at dksJ0_init_2_1 15 rfl rfl)
theorem dJ0_init_2_41 : decode cJ0_init_2 41 = .ok (.aload_n 0, 1) := dk_42 (dk_at dksJ0_init_2_1 18 rfl rfl)
theorem dJ0_init_2_42 : decode cJ0_init_2 42 = .ok (.aload_n 1, 1) := dk_43 (dk_at dksJ0_init_2_1 19 rfl rfl)
theorem dJ0_init_2_43 : decode cJ0_init_2 43 = .ok (.putfield 31, 3) := dk_181 0 31 (dk_at dksJ0_init_2_1 20 rfl rfl)
theorem dJ0_init_2_46 : decode cJ0_init_2 46 = .ok (.aload_n 0, 1) := dk_42 (dk_at dksJ0_init_2_1 23 rfl rfl)
theorem dJ0_init_2_47 : decode cJ0_init_2 47 = .ok (.aload_n 2, 1) := dk_44 (dk_at dksJ0_init_2_2 0 rfl rfl)
theorem dJ0_init_2_48 : decode cJ0_init_2 48 = .ok (.putfield 7, 3) := dk_181 0 7 (dk_at dksJ0_init_2_2 1 rfl rfl)
theorem dJ0_init_2_51 : decode cJ0_init_2 51 = .ok (.iload_n 3, 1) := dk_29 (dk_at dksJ0_init_2_2 4 rfl rfl)
theorem dJ0_init_2_52 : decode cJ0_init_2 52 = .ok (.ifCond .ne 8, 3) := dk_154 0 8 (dk_at dksJ0_init_2_2 5 rfl rfl)
theorem dJ0_init_2_55 : decode cJ0_init_2 55 = .ok (.aload_n 0, 1) := dk_42 (dk_at dksJ0_init_2_2 8 rfl rfl)
theorem dJ0_init_2_56 : decode cJ0_init_2 56 = .ok (.aconst_null, 1) := dk_1 (dk_at dksJ0_init_2_2 9 rfl rfl)
theorem dJ0_init_2_57 : decode cJ0_init_2 57 = .ok (.putfield 24, 3) := dk_181 0 24 (dk_at dksJ0_init_2_2 10 rfl rfl)
theorem dJ0_init_2_60 : decode cJ0_init_2 60 = .ok (.return_, 1) := dk_177 (dk_at dksJ0_init_2_2 13 rfl rfl)
abbrev cJ0_init_3 : ByteArray := prog_31_method_2_code
def yJ0_init_3 : MethodName := ⟨RJ0, "<init>", "(Ljava/lang/String;)V"⟩
def dkwJ0_init_3_1 : List UInt8 := [182, 0, 27, 87, 42, 43, 181, 0, 31, 177]
abbrev dktJ0_init_3_1 : List UInt8 := dkwJ0_init_3_1 ++ []
def dkwJ0_init_3_0 : List UInt8 := [42, 183, 0, 1, 42, 42, 181, 0, 7, 42, 178, 0, 13, 181, 0, 17, 42, 178, 0, 20, 181, 0, 24, 42]
abbrev dktJ0_init_3_0 : List UInt8 := dkwJ0_init_3_0 ++ dktJ0_init_3_1
theorem dksJ0_init_3_0 : cJ0_init_3.data.toList.drop 0 = dktJ0_init_3_0 := by decide +kernel
theorem dksJ0_init_3_1 : cJ0_init_3.data.toList.drop 24 = dktJ0_init_3_1 := dk_seg dksJ0_init_3_0 24 rfl rfl
theorem dJ0_init_3_0 : decode cJ0_init_3 0 = .ok (.aload_n 0, 1) := dk_42 (dk_at dksJ0_init_3_0 0 rfl rfl)
theorem dJ0_init_3_1 : decode cJ0_init_3 1 = .ok (.invokespecial 1, 3) := dk_183 0 1 (dk_at dksJ0_init_3_0 1 rfl rfl)
theorem dJ0_init_3_4 : decode cJ0_init_3 4 = .ok (.aload_n 0, 1) := dk_42 (dk_at dksJ0_init_3_0 4 rfl rfl)
theorem dJ0_init_3_5 : decode cJ0_init_3 5 = .ok (.aload_n 0, 1) := dk_42 (dk_at dksJ0_init_3_0 5 rfl rfl)
theorem dJ0_init_3_6 : decode cJ0_init_3 6 = .ok (.putfield 7, 3) := dk_181 0 7 (dk_at dksJ0_init_3_0 6 rfl rfl)
theorem dJ0_init_3_9 : decode cJ0_init_3 9 = .ok (.aload_n 0, 1) := dk_42 (dk_at dksJ0_init_3_0 9 rfl rfl)
theorem dJ0_init_3_10 : decode cJ0_init_3 10 = .ok (.getstatic 13, 3) := dk_178 0 13 (dk_at dksJ0_init_3_0 10 rfl rfl)
theorem dJ0_init_3_13 : decode cJ0_init_3 13 = .ok (.putfield 17, 3) := dk_181 0 17 (dk_at dksJ0_init_3_0 13 rfl rfl)
theorem dJ0_init_3_16 : decode cJ0_init_3 16 = .ok (.aload_n 0, 1) := dk_42 (dk_at dksJ0_init_3_0 16 rfl rfl)
theorem dJ0_init_3_17 : decode cJ0_init_3 17 = .ok (.getstatic 20, 3) := dk_178 0 20 (dk_at dksJ0_init_3_0 17 rfl rfl)
theorem dJ0_init_3_20 : decode cJ0_init_3 20 = .ok (.putfield 24, 3) := dk_181 0 24 (dk_at dksJ0_init_3_0 20 rfl rfl)
theorem dJ0_init_3_23 : decode cJ0_init_3 23 = .ok (.aload_n 0, 1) := dk_42 (dk_at dksJ0_init_3_0 23 rfl rfl)
theorem dJ0_init_3_24 : decode cJ0_init_3 24 = .ok (.invokevirtual 27, 3) := dk_182 0 27 (dk_at dksJ0_init_3_1 0 rfl rfl)
theorem dJ0_init_3_27 : decode cJ0_init_3 27 = .ok (.pop, 1) := dk_87 (dk_at dksJ0_init_3_1 3 rfl rfl)
theorem dJ0_init_3_28 : decode cJ0_init_3 28 = .ok (.aload_n 0, 1) := dk_42 (dk_at dksJ0_init_3_1 4 rfl rfl)
theorem dJ0_init_3_29 : decode cJ0_init_3 29 = .ok (.aload_n 1, 1) := dk_43 (dk_at dksJ0_init_3_1 5 rfl rfl)
theorem dJ0_init_3_30 : decode cJ0_init_3 30 = .ok (.putfield 31, 3) := dk_181 0 31 (dk_at dksJ0_init_3_1 6 rfl rfl)
theorem dJ0_init_3_33 : decode cJ0_init_3 33 = .ok (.return_, 1) := dk_177 (dk_at dksJ0_init_3_1 9 rfl rfl)
theorem q71 : (Jvm.Cond.initialized "java/lang/Throwable") ∈ lw_all := lw_g (lw_at lw_m1 2 rfl) rfl
theorem q637 : (Jvm.Cond.declares ({ cls := "java/lang/Throwable", name := "<init>", desc := "()V" } : Jvm.MethodName)) ∈ lw_tbl := lw_at lw_m3 88 rfl
theorem q638 : (Jvm.Cond.declares ({ cls := "java/lang/Throwable", name := "<init>", desc := "(Ljava/lang/String;)V" } : Jvm.MethodName)) ∈ lw_tbl := lw_at lw_m3 89 rfl
theorem q642 : (Jvm.Cond.lays "java/lang/Throwable" "java/lang/Throwable" "cause" "Ljava/lang/Throwable;") ∈ lw_all := lw_g (lw_at lw_m3 93 rfl) rfl
theorem q644 : (Jvm.Cond.lays "java/lang/Throwable" "java/lang/Throwable" "stackTrace" "[Ljava/lang/StackTraceElement;") ∈ lw_all := lw_g (lw_at lw_m3 95 rfl) rfl
theorem q646 : (Jvm.Cond.lays "java/lang/Throwable" "java/lang/Throwable" "suppressedExceptions" "Ljava/util/List;") ∈ lw_all := lw_g (lw_at lw_m3 97 rfl) rfl
theorem q648 : (Jvm.Cond.lays "java/lang/Throwable" "java/lang/Throwable" "detailMessage" "Ljava/lang/String;") ∈ lw_all := lw_g (lw_at lw_m3 99 rfl) rfl
theorem q650 : (Jvm.Cond.lays "java/lang/Throwable" "java/lang/Throwable" "backtrace" "Ljava/lang/Object;") ∈ lw_all := lw_g (lw_at lw_m3 101 rfl) rfl
theorem q651 : (Jvm.Cond.fieldLink "java/lang/Throwable" (198 : Nat) "java/lang/Throwable" "backtrace" "Ljava/lang/Object;") ∈ lw_all := lw_g (lw_at lw_m3 102 rfl) rfl
theorem q652 : (Jvm.Cond.superclass "java/lang/Throwable" "java/lang/Object") ∈ lw_all := lw_g (lw_at lw_m3 103 rfl) rfl
theorem q653 : (Jvm.Cond.instanceMethod ({ cls := "java/lang/Throwable", name := "<init>", desc := "()V" } : Jvm.MethodName)) ∈ lw_all := lw_g (lw_at lw_m3 104 rfl) rfl
theorem q654 : (Jvm.Cond.code ({ cls := "java/lang/Throwable", name := "<init>", desc := "()V" } : Jvm.MethodName) prog_31_method_1_code (1 : Nat) (Option.none : Option Jvm.ClassFile.FieldType)) ∈ lw_all := lw_g (lw_at lw_m3 105 rfl) rfl
theorem q655 : (Jvm.Cond.methodLink "java/lang/Throwable" (1 : Nat) ({ cls := "java/lang/Object", name := "<init>", desc := "()V" } : Jvm.MethodName)) ∈ lw_all := lw_g (lw_at lw_m3 106 rfl) rfl
theorem q656 : (Jvm.Cond.fieldLink "java/lang/Throwable" (13 : Nat) "java/lang/Throwable" "UNASSIGNED_STACK" "[Ljava/lang/StackTraceElement;") ∈ lw_all := lw_g (lw_at lw_m3 107 rfl) rfl
theorem q657 : (Jvm.Cond.laysStatic "java/lang/Throwable" "UNASSIGNED_STACK" "[Ljava/lang/StackTraceElement;") ∈ lw_tbl := lw_at lw_m3 108 rfl
theorem q658 : (Jvm.Cond.fieldLink "java/lang/Throwable" (20 : Nat) "java/lang/Throwable" "SUPPRESSED_SENTINEL" "Ljava/util/List;") ∈ lw_all := lw_g (lw_at lw_m3 109 rfl) rfl
theorem q659 : (Jvm.Cond.laysStatic "java/lang/Throwable" "SUPPRESSED_SENTINEL" "Ljava/util/List;") ∈ lw_tbl := lw_at lw_m3 110 rfl
theorem q660 : (Jvm.Cond.methodLink "java/lang/Throwable" (27 : Nat) ({ cls := "java/lang/Throwable", name := "fillInStackTrace", desc := "()Ljava/lang/Throwable;" } : Jvm.MethodName)) ∈ lw_all := lw_g (lw_at lw_m3 111 rfl) rfl
theorem q661 : (Jvm.Cond.instanceMethod ({ cls := "java/lang/Throwable", name := "fillInStackTrace", desc := "()Ljava/lang/Throwable;" } : Jvm.MethodName)) ∈ lw_all := lw_g (lw_at lw_m3 112 rfl) rfl
theorem q662 : (Jvm.Cond.sameMethod "java/lang/Throwable" "java/lang/Throwable" "fillInStackTrace" "()Ljava/lang/Throwable;") ∈ lw_all := lw_g (lw_at lw_m3 113 rfl) rfl
theorem q677 : (Jvm.Cond.declares ({ cls := "java/lang/Throwable", name := "fillInStackTrace", desc := "()Ljava/lang/Throwable;" } : Jvm.MethodName)) ∈ lw_tbl := lw_at lw_m3 128 rfl
theorem q681 : (Jvm.Cond.codeSync ({ cls := "java/lang/Throwable", name := "fillInStackTrace", desc := "()Ljava/lang/Throwable;" } : Jvm.MethodName) prog_31_method_18_code (1 : Nat) (Option.some (Jvm.ClassFile.FieldType.object "java/lang/Throwable"))) ∈ lw_all := lw_g (lw_at lw_m3 132 rfl) rfl
theorem q682 : (Jvm.Cond.methodLink "java/lang/Throwable" (202 : Nat) ({ cls := "java/lang/Throwable", name := "fillInStackTrace", desc := "(I)Ljava/lang/Throwable;" } : Jvm.MethodName)) ∈ lw_all := lw_g (lw_at lw_m3 133 rfl) rfl
theorem q683 : (Jvm.Cond.privateMethod ({ cls := "java/lang/Throwable", name := "fillInStackTrace", desc := "(I)Ljava/lang/Throwable;" } : Jvm.MethodName)) ∈ lw_tbl := lw_at lw_m3 134 rfl
theorem q684 : (Jvm.Cond.instanceMethod ({ cls := "java/lang/Throwable", name := "fillInStackTrace", desc := "(I)Ljava/lang/Throwable;" } : Jvm.MethodName)) ∈ lw_all := lw_g (lw_at lw_m3 135 rfl) rfl
theorem q685 : (Jvm.Cond.instantiable "java/lang/Throwable" (6 : Nat)) ∈ lw_all := lw_g (lw_at lw_m3 136 rfl) rfl
theorem q686 : (Jvm.Cond.native ({ cls := "java/lang/Throwable", name := "fillInStackTrace", desc := "(I)Ljava/lang/Throwable;" } : Jvm.MethodName)) ∈ lw_all := lw_g (lw_at lw_m3 137 rfl) rfl
theorem q697 : (Jvm.Cond.instanceMethod ({ cls := "java/lang/Throwable", name := "<init>", desc := "(Ljava/lang/String;Ljava/lang/Throwable;ZZ)V" } : Jvm.MethodName)) ∈ lw_all := lw_g (lw_at lw_m3 148 rfl) rfl
theorem q698 : (Jvm.Cond.code ({ cls := "java/lang/Throwable", name := "<init>", desc := "(Ljava/lang/String;Ljava/lang/Throwable;ZZ)V" } : Jvm.MethodName) prog_31_method_5_code (5 : Nat) (Option.none : Option Jvm.ClassFile.FieldType)) ∈ lw_all := lw_g (lw_at lw_m3 149 rfl) rfl
theorem q699 : (Jvm.Cond.fieldLink "java/lang/Throwable" (198 : Nat) "java/lang/Throwable" "backtrace" "Ljava/lang/Object;") ∈ lw_all := lw_g (lw_at lw_m3 150 rfl) rfl
theorem q700 : (Jvm.Cond.fieldLink "java/lang/Throwable" (31 : Nat) "java/lang/Throwable" "detailMessage" "Ljava/lang/String;") ∈ lw_all := lw_g (lw_at lw_m3 151 rfl) rfl
theorem q701 : (Jvm.Cond.fieldLink "java/lang/Throwable" (7 : Nat) "java/lang/Throwable" "cause" "Ljava/lang/Throwable;") ∈ lw_all := lw_g (lw_at lw_m3 152 rfl) rfl
theorem q702 : (Jvm.Cond.fieldLink "java/lang/Throwable" (17 : Nat) "java/lang/Throwable" "stackTrace" "[Ljava/lang/StackTraceElement;") ∈ lw_all := lw_g (lw_at lw_m3 153 rfl) rfl
theorem q703 : (Jvm.Cond.fieldLink "java/lang/Throwable" (24 : Nat) "java/lang/Throwable" "suppressedExceptions" "Ljava/util/List;") ∈ lw_all := lw_g (lw_at lw_m3 154 rfl) rfl
theorem q704 : (Jvm.Cond.soleField "java/lang/Throwable" "backtrace") ∈ lw_all := lw_g (lw_at lw_m3 155 rfl) rfl
theorem q705 : (Jvm.Cond.soleField "java/lang/Throwable" "detailMessage") ∈ lw_all := lw_g (lw_at lw_m3 156 rfl) rfl
theorem q706 : (Jvm.Cond.soleField "java/lang/Throwable" "cause") ∈ lw_all := lw_g (lw_at lw_m3 157 rfl) rfl
theorem q707 : (Jvm.Cond.soleField "java/lang/Throwable" "stackTrace") ∈ lw_all := lw_g (lw_at lw_m3 158 rfl) rfl
theorem q709 : (Jvm.Cond.soleField "java/lang/Throwable" "depth") ∈ lw_all := lw_g (lw_at lw_m3 160 rfl) rfl
theorem q710 : (Jvm.Cond.soleField "java/lang/Throwable" "suppressedExceptions") ∈ lw_all := lw_g (lw_at lw_m3 161 rfl) rfl
theorem q1054 : (Jvm.Cond.instanceMethod ({ cls := "java/lang/Throwable", name := "<init>", desc := "(Ljava/lang/String;)V" } : Jvm.MethodName)) ∈ lw_all := lw_g (lw_at lw_m5 25 rfl) rfl
theorem q1055 : (Jvm.Cond.code ({ cls := "java/lang/Throwable", name := "<init>", desc := "(Ljava/lang/String;)V" } : Jvm.MethodName) prog_31_method_2_code (2 : Nat) (Option.none : Option Jvm.ClassFile.FieldType)) ∈ lw_all := lw_g (lw_at lw_m5 26 rfl) rfl
theorem q1550 : (Jvm.Cond.sameMethod "java/lang/Throwable" "java/lang/Throwable" "fillInStackTrace" "(I)Ljava/lang/Throwable;") ∈ lw_all := lw_g (lw_at lw_m7 41 rfl) rfl
theorem in_J0 : ∀ w ∈ wsJ00, w ∈ lw_all := lw_in wsJ00 [642, 644, 646, 648, 650] (by decide +kernel) (by decide +kernel)
/-! java/lang/Exception -/
set_option maxRecDepth 100000
def RJ1 : String := "java/lang/Exception"
abbrev cJ1_init : ByteArray := prog_20_method_5_code
def yJ1_init : MethodName := ⟨RJ1, "<init>", "(Ljava/lang/String;Ljava/lang/Throwable;ZZ)V"⟩
def dkwJ1_init_0 : List UInt8 := [42, 43, 44, 29, 21, 4, 183, 0, 16, 177]
abbrev dktJ1_init_0 : List UInt8 := dkwJ1_init_0 ++ []
theorem dksJ1_init_0 : cJ1_init.data.toList.drop 0 = dktJ1_init_0 := by decide +kernel
theorem dJ1_init_0 : decode cJ1_init 0 = .ok (.aload_n 0, 1) := dk_42 (dk_at dksJ1_init_0 0 rfl rfl)
theorem dJ1_init_1 : decode cJ1_init 1 = .ok (.aload_n 1, 1) := dk_43 (dk_at dksJ1_init_0 1 rfl rfl)
theorem dJ1_init_2 : decode cJ1_init 2 = .ok (.aload_n 2, 1) := dk_44 (dk_at dksJ1_init_0 2 rfl rfl)
theorem dJ1_init_3 : decode cJ1_init 3 = .ok (.iload_n 3, 1) := dk_29 (dk_at dksJ1_init_0 3 rfl rfl)
theorem dJ1_init_4 : decode cJ1_init 4 = .ok (.iload 4, 2) := dk_21 4 (dk_at dksJ1_init_0 4 rfl rfl)
theorem dJ1_init_6 : decode cJ1_init 6 = .ok (.invokespecial 16, 3) := dk_183 0 16 (dk_at dksJ1_init_0 6 rfl rfl)
theorem dJ1_init_9 : decode cJ1_init 9 = .ok (.return_, 1) := dk_177 (dk_at dksJ1_init_0 9 rfl rfl)
abbrev cJ1_init_2 : ByteArray := prog_20_method_1_code
def yJ1_init_2 : MethodName := ⟨RJ1, "<init>", "()V"⟩
theorem dJ1_init_2_0 : decode cJ1_init_2 0 = .ok (.aload_n 0, 1) := by decide +kernel
theorem dJ1_init_2_1 : decode cJ1_init_2 1 = .ok (.invokespecial 1, 3) := by decide +kernel
theorem dJ1_init_2_4 : decode cJ1_init_2 4 = .ok (.return_, 1) := by decide +kernel
abbrev cJ1_init_3 : ByteArray := prog_20_method_2_code
def yJ1_init_3 : MethodName := ⟨RJ1, "<init>", "(Ljava/lang/String;)V"⟩
def dkwJ1_init_3_0 : List UInt8 := [42, 43, 183, 0, 7, 177]
abbrev dktJ1_init_3_0 : List UInt8 := dkwJ1_init_3_0 ++ []
theorem dksJ1_init_3_0 : cJ1_init_3.data.toList.drop 0 = dktJ1_init_3_0 := by decide +kernel
theorem dJ1_init_3_0 : decode cJ1_init_3 0 = .ok (.aload_n 0, 1) := dk_42 (dk_at dksJ1_init_3_0 0 rfl rfl)
theorem dJ1_init_3_1 : decode cJ1_init_3 1 = .ok (.aload_n 1, 1) := dk_43 (dk_at dksJ1_init_3_0 1 rfl rfl)
theorem dJ1_init_3_2 : decode cJ1_init_3 2 = .ok (.invokespecial 7, 3) := dk_183 0 7 (dk_at dksJ1_init_3_0 2 rfl rfl)
theorem dJ1_init_3_5 : decode cJ1_init_3 5 = .ok (.return_, 1) := dk_177 (dk_at dksJ1_init_3_0 5 rfl rfl)
theorem q72 : (Jvm.Cond.initialized "java/lang/Exception") ∈ lw_all := lw_g (lw_at lw_m1 3 rfl) rfl
theorem q635 : (Jvm.Cond.declares ({ cls := "java/lang/Exception", name := "<init>", desc := "()V" } : Jvm.MethodName)) ∈ lw_tbl := lw_at lw_m3 86 rfl
theorem q636 : (Jvm.Cond.declares ({ cls := "java/lang/Exception", name := "<init>", desc := "(Ljava/lang/String;)V" } : Jvm.MethodName)) ∈ lw_tbl := lw_at lw_m3 87 rfl
theorem q680 : (Jvm.Cond.superclass "java/lang/Exception" "java/lang/Throwable") ∈ lw_all := lw_g (lw_at lw_m3 131 rfl) rfl
theorem q694 : (Jvm.Cond.instanceMethod ({ cls := "java/lang/Exception", name := "<init>", desc := "(Ljava/lang/String;Ljava/lang/Throwable;ZZ)V" } : Jvm.MethodName)) ∈ lw_all := lw_g (lw_at lw_m3 145 rfl) rfl
theorem q695 : (Jvm.Cond.code ({ cls := "java/lang/Exception", name := "<init>", desc := "(Ljava/lang/String;Ljava/lang/Throwable;ZZ)V" } : Jvm.MethodName) prog_20_method_5_code (5 : Nat) (Option.none : Option Jvm.ClassFile.FieldType)) ∈ lw_all := lw_g (lw_at lw_m3 146 rfl) rfl
theorem q696 : (Jvm.Cond.methodLink "java/lang/Exception" (16 : Nat) ({ cls := "java/lang/Throwable", name := "<init>", desc := "(Ljava/lang/String;Ljava/lang/Throwable;ZZ)V" } : Jvm.MethodName)) ∈ lw_all := lw_g (lw_at lw_m3 147 rfl) rfl
theorem q998 : (Jvm.Cond.instanceMethod ({ cls := "java/lang/Exception", name := "<init>", desc := "()V" } : Jvm.MethodName)) ∈ lw_all := lw_g (lw_at lw_m4 209 rfl) rfl
theorem q999 : (Jvm.Cond.code ({ cls := "java/lang/Exception", name := "<init>", desc := "()V" } : Jvm.MethodName) prog_20_method_1_code (1 : Nat) (Option.none : Option Jvm.ClassFile.FieldType)) ∈ lw_all := lw_g (lw_at lw_m4 210 rfl) rfl
theorem q1000 : (Jvm.Cond.methodLink "java/lang/Exception" (1 : Nat) ({ cls := "java/lang/Throwable", name := "<init>", desc := "()V" } : Jvm.MethodName)) ∈ lw_all := lw_g (lw_at lw_m4 211 rfl) rfl
theorem q1051 : (Jvm.Cond.instanceMethod ({ cls := "java/lang/Exception", name := "<init>", desc := "(Ljava/lang/String;)V" } : Jvm.MethodName)) ∈ lw_all := lw_g (lw_at lw_m5 22 rfl) rfl
theorem q1052 : (Jvm.Cond.code ({ cls := "java/lang/Exception", name := "<init>", desc := "(Ljava/lang/String;)V" } : Jvm.MethodName) prog_20_method_2_code (2 : Nat) (Option.none : Option Jvm.ClassFile.FieldType)) ∈ lw_all := lw_g (lw_at lw_m5 23 rfl) rfl
theorem q1053 : (Jvm.Cond.methodLink "java/lang/Exception" (7 : Nat) ({ cls := "java/lang/Throwable", name := "<init>", desc := "(Ljava/lang/String;)V" } : Jvm.MethodName)) ∈ lw_all := lw_g (lw_at lw_m5 24 rfl) rfl
/-! java/lang/RuntimeException -/
set_option maxRecDepth 100000
def RJ2 : String := "java/lang/RuntimeException"
abbrev cJ2_init : ByteArray := prog_26_method_5_code
def yJ2_init : MethodName := ⟨RJ2, "<init>", "(Ljava/lang/String;Ljava/lang/Throwable;ZZ)V"⟩
def dkwJ2_init_0 : List UInt8 := [42, 43, 44, 29, 21, 4, 183, 0, 16, 177]
abbrev dktJ2_init_0 : List UInt8 := dkwJ2_init_0 ++ []
theorem dksJ2_init_0 : cJ2_init.data.toList.drop 0 = dktJ2_init_0 := by decide +kernel
theorem dJ2_init_0 : decode cJ2_init 0 = .ok (.aload_n 0, 1) := dk_42 (dk_at dksJ2_init_0 0 rfl rfl)
theorem dJ2_init_1 : decode cJ2_init 1 = .ok (.aload_n 1, 1) := dk_43 (dk_at dksJ2_init_0 1 rfl rfl)
theorem dJ2_init_2 : decode cJ2_init 2 = .ok (.aload_n 2, 1) := dk_44 (dk_at dksJ2_init_0 2 rfl rfl)
theorem dJ2_init_3 : decode cJ2_init 3 = .ok (.iload_n 3, 1) := dk_29 (dk_at dksJ2_init_0 3 rfl rfl)
theorem dJ2_init_4 : decode cJ2_init 4 = .ok (.iload 4, 2) := dk_21 4 (dk_at dksJ2_init_0 4 rfl rfl)
theorem dJ2_init_6 : decode cJ2_init 6 = .ok (.invokespecial 16, 3) := dk_183 0 16 (dk_at dksJ2_init_0 6 rfl rfl)
theorem dJ2_init_9 : decode cJ2_init 9 = .ok (.return_, 1) := dk_177 (dk_at dksJ2_init_0 9 rfl rfl)
abbrev cJ2_init_2 : ByteArray := prog_26_method_1_code
def yJ2_init_2 : MethodName := ⟨RJ2, "<init>", "()V"⟩
theorem dJ2_init_2_0 : decode cJ2_init_2 0 = .ok (.aload_n 0, 1) := by decide +kernel
theorem dJ2_init_2_1 : decode cJ2_init_2 1 = .ok (.invokespecial 1, 3) := by decide +kernel
theorem dJ2_init_2_4 : decode cJ2_init_2 4 = .ok (.return_, 1) := by decide +kernel
abbrev cJ2_init_3 : ByteArray := prog_26_method_2_code
def yJ2_init_3 : MethodName := ⟨RJ2, "<init>", "(Ljava/lang/String;)V"⟩
def dkwJ2_init_3_0 : List UInt8 := [42, 43, 183, 0, 7, 177]
abbrev dktJ2_init_3_0 : List UInt8 := dkwJ2_init_3_0 ++ []
theorem dksJ2_init_3_0 : cJ2_init_3.data.toList.drop 0 = dktJ2_init_3_0 := by decide +kernel
theorem dJ2_init_3_0 : decode cJ2_init_3 0 = .ok (.aload_n 0, 1) := dk_42 (dk_at dksJ2_init_3_0 0 rfl rfl)
theorem dJ2_init_3_1 : decode cJ2_init_3 1 = .ok (.aload_n 1, 1) := dk_43 (dk_at dksJ2_init_3_0 1 rfl rfl)
theorem dJ2_init_3_2 : decode cJ2_init_3 2 = .ok (.invokespecial 7, 3) := dk_183 0 7 (dk_at dksJ2_init_3_0 2 rfl rfl)
theorem dJ2_init_3_5 : decode cJ2_init_3 5 = .ok (.return_, 1) := dk_177 (dk_at dksJ2_init_3_0 5 rfl rfl)
theorem q73 : (Jvm.Cond.initialized "java/lang/RuntimeException") ∈ lw_all := lw_g (lw_at lw_m1 4 rfl) rfl
theorem q633 : (Jvm.Cond.declares ({ cls := "java/lang/RuntimeException", name := "<init>", desc := "()V" } : Jvm.MethodName)) ∈ lw_tbl := lw_at lw_m3 84 rfl
theorem q634 : (Jvm.Cond.declares ({ cls := "java/lang/RuntimeException", name := "<init>", desc := "(Ljava/lang/String;)V" } : Jvm.MethodName)) ∈ lw_tbl := lw_at lw_m3 85 rfl
theorem q676 : (Jvm.Cond.sameMethod "java/lang/RuntimeException" "java/lang/Throwable" "fillInStackTrace" "()Ljava/lang/Throwable;") ∈ lw_all := lw_g (lw_at lw_m3 127 rfl) rfl
theorem q679 : (Jvm.Cond.superclass "java/lang/RuntimeException" "java/lang/Exception") ∈ lw_all := lw_g (lw_at lw_m3 130 rfl) rfl
theorem q691 : (Jvm.Cond.instanceMethod ({ cls := "java/lang/RuntimeException", name := "<init>", desc := "(Ljava/lang/String;Ljava/lang/Throwable;ZZ)V" } : Jvm.MethodName)) ∈ lw_all := lw_g (lw_at lw_m3 142 rfl) rfl
theorem q692 : (Jvm.Cond.code ({ cls := "java/lang/RuntimeException", name := "<init>", desc := "(Ljava/lang/String;Ljava/lang/Throwable;ZZ)V" } : Jvm.MethodName) prog_26_method_5_code (5 : Nat) (Option.none : Option Jvm.ClassFile.FieldType)) ∈ lw_all := lw_g (lw_at lw_m3 143 rfl) rfl
theorem q693 : (Jvm.Cond.methodLink "java/lang/RuntimeException" (16 : Nat) ({ cls := "java/lang/Exception", name := "<init>", desc := "(Ljava/lang/String;Ljava/lang/Throwable;ZZ)V" } : Jvm.MethodName)) ∈ lw_all := lw_g (lw_at lw_m3 144 rfl) rfl
theorem q995 : (Jvm.Cond.instanceMethod ({ cls := "java/lang/RuntimeException", name := "<init>", desc := "()V" } : Jvm.MethodName)) ∈ lw_all := lw_g (lw_at lw_m4 206 rfl) rfl
theorem q996 : (Jvm.Cond.code ({ cls := "java/lang/RuntimeException", name := "<init>", desc := "()V" } : Jvm.MethodName) prog_26_method_1_code (1 : Nat) (Option.none : Option Jvm.ClassFile.FieldType)) ∈ lw_all := lw_g (lw_at lw_m4 207 rfl) rfl
theorem q997 : (Jvm.Cond.methodLink "java/lang/RuntimeException" (1 : Nat) ({ cls := "java/lang/Exception", name := "<init>", desc := "()V" } : Jvm.MethodName)) ∈ lw_all := lw_g (lw_at lw_m4 208 rfl) rfl
theorem q1048 : (Jvm.Cond.instanceMethod ({ cls := "java/lang/RuntimeException", name := "<init>", desc := "(Ljava/lang/String;)V" } : Jvm.MethodName)) ∈ lw_all := lw_g (lw_at lw_m5 19 rfl) rfl
theorem q1049 : (Jvm.Cond.code ({ cls := "java/lang/RuntimeException", name := "<init>", desc := "(Ljava/lang/String;)V" } : Jvm.MethodName) prog_26_method_2_code (2 : Nat) (Option.none : Option Jvm.ClassFile.FieldType)) ∈ lw_all := lw_g (lw_at lw_m5 20 rfl) rfl
theorem q1050 : (Jvm.Cond.methodLink "java/lang/RuntimeException" (7 : Nat) ({ cls := "java/lang/Exception", name := "<init>", desc := "(Ljava/lang/String;)V" } : Jvm.MethodName)) ∈ lw_all := lw_g (lw_at lw_m5 21 rfl) rfl
theorem q1098 : (Jvm.Cond.castable "java/lang/RuntimeException" "java/lang/Throwable") ∈ lw_tbl := lw_at lw_m5 69 rfl
/-! java/lang/String -/
set_option maxRecDepth 100000
def RJ3 : String := "java/lang/String"
def TJ3 : u_T := fun k => match k with
  | 0 => ("java/lang/String", "value", "[B", true)
  | _ => ("java/lang/String", "coder", "B", true)
def tyJ3 : Nat → FieldType := fun k => match k with
  | 0 => .array .byte
  | _ => .byte
abbrev wsJ30 : List Cond := u_ws RJ3 TJ3 2
theorem nmJ3 : ∀ a, a < 2 → ∀ b, b < 2 → a ≠ b → (TJ3 a).2.1 ≠ (TJ3 b).2.1 := by decide +kernel
theorem tyJ3_ok : ∀ k, k < 2 → parseFieldDescriptor (TJ3 k).2.2.1 = some (tyJ3 k) := by decide +kernel
abbrev cJ3_length : ByteArray := prog_27_method_54_code
def yJ3_length : MethodName := ⟨RJ3, "length", "()I"⟩
def dkwJ3_length_0 : List UInt8 := [42, 180, 0, 9, 190, 42, 182, 1, 79, 122, 172]
abbrev dktJ3_length_0 : List UInt8 := dkwJ3_length_0 ++ []
theorem dksJ3_length_0 : cJ3_length.data.toList.drop 0 = dktJ3_length_0 := by decide +kernel
theorem dJ3_length_0 : decode cJ3_length 0 = .ok (.aload_n 0, 1) := dk_42 (dk_at dksJ3_length_0 0 rfl rfl)
theorem dJ3_length_1 : decode cJ3_length 1 = .ok (.getfield 9, 3) := dk_180 0 9 (dk_at dksJ3_length_0 1 rfl rfl)
theorem dJ3_length_4 : decode cJ3_length 4 = .ok (.arraylength, 1) := dk_190 (dk_at dksJ3_length_0 4 rfl rfl)
theorem dJ3_length_5 : decode cJ3_length 5 = .ok (.aload_n 0, 1) := dk_42 (dk_at dksJ3_length_0 5 rfl rfl)
theorem dJ3_length_6 : decode cJ3_length 6 = .ok (.invokevirtual 335, 3) := dk_182 1 79 (dk_at dksJ3_length_0 6 rfl rfl)
theorem dJ3_length_9 : decode cJ3_length 9 = .ok (.ishr, 1) := dk_122 (dk_at dksJ3_length_0 9 rfl rfl)
theorem dJ3_length_10 : decode cJ3_length 10 = .ok (.ireturn, 1) := dk_172 (dk_at dksJ3_length_0 10 rfl rfl)
abbrev cJ3_coder : ByteArray := prog_27_method_152_code
def yJ3_coder : MethodName := ⟨RJ3, "coder", "()B"⟩
def dkwJ3_coder_0 : List UInt8 := [178, 0, 38, 153, 0, 10, 42, 180, 0, 15, 167, 0, 4, 4, 172]
abbrev dktJ3_coder_0 : List UInt8 := dkwJ3_coder_0 ++ []
theorem dksJ3_coder_0 : cJ3_coder.data.toList.drop 0 = dktJ3_coder_0 := by decide +kernel
theorem dJ3_coder_0 : decode cJ3_coder 0 = .ok (.getstatic 38, 3) := dk_178 0 38 (dk_at dksJ3_coder_0 0 rfl rfl)
theorem dJ3_coder_3 : decode cJ3_coder 3 = .ok (.ifCond .eq 10, 3) := dk_153 0 10 (dk_at dksJ3_coder_0 3 rfl rfl)
theorem dJ3_coder_6 : decode cJ3_coder 6 = .ok (.aload_n 0, 1) := dk_42 (dk_at dksJ3_coder_0 6 rfl rfl)
theorem dJ3_coder_7 : decode cJ3_coder 7 = .ok (.getfield 15, 3) := dk_180 0 15 (dk_at dksJ3_coder_0 7 rfl rfl)
theorem dJ3_coder_10 : decode cJ3_coder 10 = .ok (.goto 4, 3) := dk_167 0 4 (dk_at dksJ3_coder_0 10 rfl rfl)
theorem dJ3_coder_13 : decode cJ3_coder 13 = .ok (.iconst 1, 1) := dk_4 (dk_at dksJ3_coder_0 13 rfl rfl)
theorem dJ3_coder_14 : decode cJ3_coder 14 = .ok (.ireturn, 1) := dk_172 (dk_at dksJ3_coder_0 14 rfl rfl)
abbrev cJ3_charAt : ByteArray := prog_27_method_56_code
def yJ3_charAt : MethodName := ⟨RJ3, "charAt", "(I)C"⟩
def dkwJ3_charAt_1 : List UInt8 := [172]
abbrev dktJ3_charAt_1 : List UInt8 := dkwJ3_charAt_1 ++ []
def dkwJ3_charAt_0 : List UInt8 := [42, 182, 1, 236, 153, 0, 12, 42, 180, 0, 9, 27, 184, 1, 239, 172, 42, 180, 0, 9, 27, 184, 1, 242]
abbrev dktJ3_charAt_0 : List UInt8 := dkwJ3_charAt_0 ++ dktJ3_charAt_1
theorem dksJ3_charAt_0 : cJ3_charAt.data.toList.drop 0 = dktJ3_charAt_0 := by decide +kernel
theorem dksJ3_charAt_1 : cJ3_charAt.data.toList.drop 24 = dktJ3_charAt_1 := dk_seg dksJ3_charAt_0 24 rfl rfl
theorem dJ3_charAt_0 : decode cJ3_charAt 0 = .ok (.aload_n 0, 1) := dk_42 (dk_at dksJ3_charAt_0 0 rfl rfl)
theorem dJ3_charAt_1 : decode cJ3_charAt 1 = .ok (.invokevirtual 492, 3) := dk_182 1 236 (dk_at dksJ3_charAt_0 1 rfl rfl)
theorem dJ3_charAt_4 : decode cJ3_charAt 4 = .ok (.ifCond .eq 12, 3) := dk_153 0 12 (dk_at dksJ3_charAt_0 4 rfl rfl)
theorem dJ3_charAt_7 : decode cJ3_charAt 7 = .ok (.aload_n 0, 1) := dk_42 (dk_at dksJ3_charAt_0 7 rfl rfl)
theorem dJ3_charAt_8 : decode cJ3_charAt 8 = .ok (.getfield 9, 3) := dk_180 0 9 (dk_at dksJ3_charAt_0 8 rfl rfl)
theorem dJ3_charAt_11 : decode cJ3_charAt 11 = .ok (.iload_n 1, 1) := dk_27 (dk_at dksJ3_charAt_0 11 rfl rfl)
theorem dJ3_charAt_12 : decode cJ3_charAt 12 = .ok (.invokestatic 495, 3) := dk_184 1 239 (dk_at dksJ3_charAt_0 12 rfl rfl)
theorem dJ3_charAt_15 : decode cJ3_charAt 15 = .ok (.ireturn, 1) := dk_172 (dk_at dksJ3_charAt_0 15 rfl rfl)
theorem dJ3_charAt_16 : decode cJ3_charAt 16 = .ok (.aload_n 0, 1) := dk_42 (dk_at dksJ3_charAt_0 16 rfl rfl)
theorem dJ3_charAt_17 : decode cJ3_charAt 17 = .ok (.getfield 9, 3) := dk_180 0 9 (dk_at dksJ3_charAt_0 17 rfl rfl)
theorem dJ3_charAt_20 : decode cJ3_charAt 20 = .ok (.iload_n 1, 1) := dk_27 (dk_at dksJ3_charAt_0 20 rfl rfl)
theorem dJ3_charAt_21 : decode cJ3_charAt 21 = .ok (.invokestatic 498, 3) := dk_184 1 242 (dk_at dksJ3_charAt_0 21 rfl rfl)
theorem dJ3_charAt_24 : decode cJ3_charAt 24 = .ok (.ireturn, 1) := dk_172 (dk_at dksJ3_charAt_1 0 rfl rfl)
abbrev cJ3_isLatin1 : ByteArray := prog_27_method_154_code
def yJ3_isLatin1 : MethodName := ⟨RJ3, "isLatin1", "()Z"⟩
def dkwJ3_isLatin1_0 : List UInt8 := [178, 0, 38, 153, 0, 14, 42, 180, 0, 15, 154, 0, 7, 4, 167, 0, 4, 3, 172]
abbrev dktJ3_isLatin1_0 : List UInt8 := dkwJ3_isLatin1_0 ++ []
theorem dksJ3_isLatin1_0 : cJ3_isLatin1.data.toList.drop 0 = dktJ3_isLatin1_0 := by decide +kernel
theorem dJ3_isLatin1_0 : decode cJ3_isLatin1 0 = .ok (.getstatic 38, 3) := dk_178 0 38 (dk_at dksJ3_isLatin1_0 0 rfl rfl)
theorem dJ3_isLatin1_3 : decode cJ3_isLatin1 3 = .ok (.ifCond .eq 14, 3) := dk_153 0 14 (dk_at dksJ3_isLatin1_0 3 rfl rfl)
theorem dJ3_isLatin1_6 : decode cJ3_isLatin1 6 = .ok (.aload_n 0, 1) := dk_42 (dk_at dksJ3_isLatin1_0 6 rfl rfl)
theorem dJ3_isLatin1_7 : decode cJ3_isLatin1 7 = .ok (.getfield 15, 3) := dk_180 0 15 (dk_at dksJ3_isLatin1_0 7 rfl rfl)
theorem dJ3_isLatin1_10 : decode cJ3_isLatin1 10 = .ok (.ifCond .ne 7, 3) := dk_154 0 7 (dk_at dksJ3_isLatin1_0 10 rfl rfl)
theorem dJ3_isLatin1_13 : decode cJ3_isLatin1 13 = .ok (.iconst 1, 1) := dk_4 (dk_at dksJ3_isLatin1_0 13 rfl rfl)
theorem dJ3_isLatin1_14 : decode cJ3_isLatin1 14 = .ok (.goto 4, 3) := dk_167 0 4 (dk_at dksJ3_isLatin1_0 14 rfl rfl)
theorem dJ3_isLatin1_17 : decode cJ3_isLatin1 17 = .ok (.iconst 0, 1) := dk_3 (dk_at dksJ3_isLatin1_0 17 rfl rfl)
theorem dJ3_isLatin1_18 : decode cJ3_isLatin1 18 = .ok (.ireturn, 1) := dk_172 (dk_at dksJ3_isLatin1_0 18 rfl rfl)
abbrev cJ3_checkIndex : ByteArray := prog_27_method_155_code
def yJ3_checkIndex : MethodName := ⟨RJ3, "checkIndex", "(II)V"⟩
def dkwJ3_checkIndex_0 : List UInt8 := [26, 27, 178, 4, 29, 184, 4, 35, 87, 177]
abbrev dktJ3_checkIndex_0 : List UInt8 := dkwJ3_checkIndex_0 ++ []
theorem dksJ3_checkIndex_0 : cJ3_checkIndex.data.toList.drop 0 = dktJ3_checkIndex_0 := by decide +kernel
theorem dJ3_checkIndex_0 : decode cJ3_checkIndex 0 = .ok (.iload_n 0, 1) := dk_26 (dk_at dksJ3_checkIndex_0 0 rfl rfl)
theorem dJ3_checkIndex_1 : decode cJ3_checkIndex 1 = .ok (.iload_n 1, 1) := dk_27 (dk_at dksJ3_checkIndex_0 1 rfl rfl)
theorem dJ3_checkIndex_2 : decode cJ3_checkIndex 2 = .ok (.getstatic 1053, 3) := dk_178 4 29 (dk_at dksJ3_checkIndex_0 2 rfl rfl)
theorem dJ3_checkIndex_5 : decode cJ3_checkIndex 5 = .ok (.invokestatic 1059, 3) := dk_184 4 35 (dk_at dksJ3_checkIndex_0 5 rfl rfl)
theorem dJ3_checkIndex_8 : decode cJ3_checkIndex 8 = .ok (.pop, 1) := dk_87 (dk_at dksJ3_checkIndex_0 8 rfl rfl)
theorem dJ3_checkIndex_9 : decode cJ3_checkIndex 9 = .ok (.return_, 1) := dk_177 (dk_at dksJ3_checkIndex_0 9 rfl rfl)
abbrev cJ3_indexOf : ByteArray := prog_27_method_79_code
def yJ3_indexOf : MethodName := ⟨RJ3, "indexOf", "(I)I"⟩
def dkwJ3_indexOf_0 : List UInt8 := [42, 27, 3, 182, 2, 121, 172]
abbrev dktJ3_indexOf_0 : List UInt8 := dkwJ3_indexOf_0 ++ []
theorem dksJ3_indexOf_0 : cJ3_indexOf.data.toList.drop 0 = dktJ3_indexOf_0 := by decide +kernel
theorem dJ3_indexOf_0 : decode cJ3_indexOf 0 = .ok (.aload_n 0, 1) := dk_42 (dk_at dksJ3_indexOf_0 0 rfl rfl)
theorem dJ3_indexOf_1 : decode cJ3_indexOf 1 = .ok (.iload_n 1, 1) := dk_27 (dk_at dksJ3_indexOf_0 1 rfl rfl)
theorem dJ3_indexOf_2 : decode cJ3_indexOf 2 = .ok (.iconst 0, 1) := dk_3 (dk_at dksJ3_indexOf_0 2 rfl rfl)
theorem dJ3_indexOf_3 : decode cJ3_indexOf 3 = .ok (.invokevirtual 633, 3) := dk_182 2 121 (dk_at dksJ3_indexOf_0 3 rfl rfl)
theorem dJ3_indexOf_6 : decode cJ3_indexOf 6 = .ok (.ireturn, 1) := dk_172 (dk_at dksJ3_indexOf_0 6 rfl rfl)
abbrev cJ3_indexOf_2 : ByteArray := prog_27_method_80_code
def yJ3_indexOf_2 : MethodName := ⟨RJ3, "indexOf", "(II)I"⟩
def dkwJ3_indexOf_2_1 : List UInt8 := [180, 0, 9, 27, 28, 42, 182, 1, 249, 184, 2, 128, 172]
abbrev dktJ3_indexOf_2_1 : List UInt8 := dkwJ3_indexOf_2_1 ++ []
def dkwJ3_indexOf_2_0 : List UInt8 := [42, 182, 1, 236, 153, 0, 19, 42, 180, 0, 9, 27, 28, 42, 182, 1, 249, 184, 2, 125, 167, 0, 16, 42]
abbrev dktJ3_indexOf_2_0 : List UInt8 := dkwJ3_indexOf_2_0 ++ dktJ3_indexOf_2_1
theorem dksJ3_indexOf_2_0 : cJ3_indexOf_2.data.toList.drop 0 = dktJ3_indexOf_2_0 := by decide +kernel
theorem dksJ3_indexOf_2_1 : cJ3_indexOf_2.data.toList.drop 24 = dktJ3_indexOf_2_1 := dk_seg dksJ3_indexOf_2_0 24 rfl rfl
theorem dJ3_indexOf_2_0 : decode cJ3_indexOf_2 0 = .ok (.aload_n 0, 1) := dk_42 (dk_at dksJ3_indexOf_2_0 0 rfl rfl)
theorem dJ3_indexOf_2_1 : decode cJ3_indexOf_2 1 = .ok (.invokevirtual 492, 3) := dk_182 1 236 (dk_at dksJ3_indexOf_2_0 1 rfl rfl)
theorem dJ3_indexOf_2_4 : decode cJ3_indexOf_2 4 = .ok (.ifCond .eq 19, 3) := dk_153 0 19 (dk_at dksJ3_indexOf_2_0 4 rfl rfl)
theorem dJ3_indexOf_2_7 : decode cJ3_indexOf_2 7 = .ok (.aload_n 0, 1) := dk_42 (dk_at dksJ3_indexOf_2_0 7 rfl rfl)
theorem dJ3_indexOf_2_8 : decode cJ3_indexOf_2 8 = .ok (.getfield 9, 3) := dk_180 0 9 (dk_at dksJ3_indexOf_2_0 8 rfl rfl)
theorem dJ3_indexOf_2_11 : decode cJ3_indexOf_2 11 = .ok (.iload_n 1, 1) := dk_27 (dk_at dksJ3_indexOf_2_0 11 rfl rfl)
theorem dJ3_indexOf_2_12 : decode cJ3_indexOf_2 12 = .ok (.iload_n 2, 1) := dk_28 (dk_at dksJ3_indexOf_2_0 12 rfl rfl)
theorem dJ3_indexOf_2_13 : decode cJ3_indexOf_2 13 = .ok (.aload_n 0, 1) := dk_42 (dk_at dksJ3_indexOf_2_0 13 rfl rfl)
theorem dJ3_indexOf_2_14 : decode cJ3_indexOf_2 14 = .ok (.invokevirtual 505, 3) := dk_182 1 249 (dk_at dksJ3_indexOf_2_0 14 rfl rfl)
theorem dJ3_indexOf_2_17 : decode cJ3_indexOf_2 17 = .ok (.invokestatic 637, 3) := dk_184 2 125 (dk_at dksJ3_indexOf_2_0 17 rfl rfl)
theorem dJ3_indexOf_2_20 : decode cJ3_indexOf_2 20 = .ok (.goto 16, 3) := dk_167 0 16 (dk_at dksJ3_indexOf_2_0 20 rfl rfl)
theorem dJ3_indexOf_2_23 : decode cJ3_indexOf_2 23 = .ok (.aload_n 0, 1) := dk_42 (dk_at dksJ3_indexOf_2_0 23 rfl rfl)
theorem dJ3_indexOf_2_24 : decode cJ3_indexOf_2 24 = .ok (.getfield 9, 3) := dk_180 0 9 (dk_at dksJ3_indexOf_2_1 0 rfl rfl)
theorem dJ3_indexOf_2_27 : decode cJ3_indexOf_2 27 = .ok (.iload_n 1, 1) := dk_27 (dk_at dksJ3_indexOf_2_1 3 rfl rfl)
theorem dJ3_indexOf_2_28 : decode cJ3_indexOf_2 28 = .ok (.iload_n 2, 1) := dk_28 (dk_at dksJ3_indexOf_2_1 4 rfl rfl)
theorem dJ3_indexOf_2_29 : decode cJ3_indexOf_2 29 = .ok (.aload_n 0, 1) := dk_42 (dk_at dksJ3_indexOf_2_1 5 rfl rfl)
theorem dJ3_indexOf_2_30 : decode cJ3_indexOf_2 30 = .ok (.invokevirtual 505, 3) := dk_182 1 249 (dk_at dksJ3_indexOf_2_1 6 rfl rfl)
theorem dJ3_indexOf_2_33 : decode cJ3_indexOf_2 33 = .ok (.invokestatic 640, 3) := dk_184 2 128 (dk_at dksJ3_indexOf_2_1 9 rfl rfl)
theorem dJ3_indexOf_2_36 : decode cJ3_indexOf_2 36 = .ok (.ireturn, 1) := dk_172 (dk_at dksJ3_indexOf_2_1 12 rfl rfl)
abbrev cJ3_checkBoundsBeginEnd : ByteArray := prog_27_method_158_code
def yJ3_checkBoundsBeginEnd : MethodName := ⟨RJ3, "checkBoundsBeginEnd", "(III)V"⟩
def dkwJ3_checkBoundsBeginEnd_0 : List UInt8 := [26, 27, 28, 178, 4, 29, 184, 4, 38, 87, 177]
abbrev dktJ3_checkBoundsBeginEnd_0 : List UInt8 := dkwJ3_checkBoundsBeginEnd_0 ++ []
theorem dksJ3_checkBoundsBeginEnd_0 : cJ3_checkBoundsBeginEnd.data.toList.drop 0 = dktJ3_checkBoundsBeginEnd_0 := by decide +kernel
theorem dJ3_checkBoundsBeginEnd_0 : decode cJ3_checkBoundsBeginEnd 0 = .ok (.iload_n 0, 1) := dk_26 (dk_at dksJ3_checkBoundsBeginEnd_0 0 rfl rfl)
theorem dJ3_checkBoundsBeginEnd_1 : decode cJ3_checkBoundsBeginEnd 1 = .ok (.iload_n 1, 1) := dk_27 (dk_at dksJ3_checkBoundsBeginEnd_0 1 rfl rfl)
theorem dJ3_checkBoundsBeginEnd_2 : decode cJ3_checkBoundsBeginEnd 2 = .ok (.iload_n 2, 1) := dk_28 (dk_at dksJ3_checkBoundsBeginEnd_0 2 rfl rfl)
theorem dJ3_checkBoundsBeginEnd_3 : decode cJ3_checkBoundsBeginEnd 3 = .ok (.getstatic 1053, 3) := dk_178 4 29 (dk_at dksJ3_checkBoundsBeginEnd_0 3 rfl rfl)
theorem dJ3_checkBoundsBeginEnd_6 : decode cJ3_checkBoundsBeginEnd 6 = .ok (.invokestatic 1062, 3) := dk_184 4 38 (dk_at dksJ3_checkBoundsBeginEnd_0 6 rfl rfl)
theorem dJ3_checkBoundsBeginEnd_9 : decode cJ3_checkBoundsBeginEnd 9 = .ok (.pop, 1) := dk_87 (dk_at dksJ3_checkBoundsBeginEnd_0 9 rfl rfl)
theorem dJ3_checkBoundsBeginEnd_10 : decode cJ3_checkBoundsBeginEnd 10 = .ok (.return_, 1) := dk_177 (dk_at dksJ3_checkBoundsBeginEnd_0 10 rfl rfl)
theorem q76 : (Jvm.Cond.initialized "java/lang/String") ∈ lw_all := lw_g (lw_at lw_m1 7 rfl) rfl
theorem q417 : (Jvm.Cond.instanceMethod ({ cls := "java/lang/String", name := "length", desc := "()I" } : Jvm.MethodName)) ∈ lw_all := lw_g (lw_at lw_m2 108 rfl) rfl
theorem q418 : (Jvm.Cond.selects "java/lang/String" ({ cls := "java/lang/String", name := "length", desc := "()I" } : Jvm.MethodName) ({ cls := "java/lang/String", name := "length", desc := "()I" } : Jvm.MethodName)) ∈ lw_all := lw_g (lw_at lw_m2 109 rfl) rfl
theorem q419 : (Jvm.Cond.code ({ cls := "java/lang/String", name := "length", desc := "()I" } : Jvm.MethodName) prog_27_method_54_code (1 : Nat) (Option.some Jvm.ClassFile.FieldType.int)) ∈ lw_all := lw_g (lw_at lw_m2 110 rfl) rfl
theorem q420 : (Jvm.Cond.methodLink "java/lang/String" (335 : Nat) ({ cls := "java/lang/String", name := "coder", desc := "()B" } : Jvm.MethodName)) ∈ lw_all := lw_g (lw_at lw_m2 111 rfl) rfl
theorem q421 : (Jvm.Cond.instanceMethod ({ cls := "java/lang/String", name := "coder", desc := "()B" } : Jvm.MethodName)) ∈ lw_all := lw_g (lw_at lw_m2 112 rfl) rfl
theorem q422 : (Jvm.Cond.selects "java/lang/String" ({ cls := "java/lang/String", name := "coder", desc := "()B" } : Jvm.MethodName) ({ cls := "java/lang/String", name := "coder", desc := "()B" } : Jvm.MethodName)) ∈ lw_all := lw_g (lw_at lw_m2 113 rfl) rfl
theorem q423 : (Jvm.Cond.code ({ cls := "java/lang/String", name := "coder", desc := "()B" } : Jvm.MethodName) prog_27_method_152_code (1 : Nat) (Option.some Jvm.ClassFile.FieldType.byte)) ∈ lw_all := lw_g (lw_at lw_m2 114 rfl) rfl
theorem q424 : (Jvm.Cond.fieldLink "java/lang/String" (38 : Nat) "java/lang/String" "COMPACT_STRINGS" "Z") ∈ lw_all := lw_g (lw_at lw_m2 115 rfl) rfl
theorem q425 : (Jvm.Cond.laysStatic "java/lang/String" "COMPACT_STRINGS" "Z") ∈ lw_tbl := lw_at lw_m2 116 rfl
theorem q427 : (Jvm.Cond.instanceMethod ({ cls := "java/lang/String", name := "charAt", desc := "(I)C" } : Jvm.MethodName)) ∈ lw_all := lw_g (lw_at lw_m2 118 rfl) rfl
theorem q428 : (Jvm.Cond.selects "java/lang/String" ({ cls := "java/lang/String", name := "charAt", desc := "(I)C" } : Jvm.MethodName) ({ cls := "java/lang/String", name := "charAt", desc := "(I)C" } : Jvm.MethodName)) ∈ lw_all := lw_g (lw_at lw_m2 119 rfl) rfl
theorem q429 : (Jvm.Cond.code ({ cls := "java/lang/String", name := "charAt", desc := "(I)C" } : Jvm.MethodName) prog_27_method_56_code (2 : Nat) (Option.some Jvm.ClassFile.FieldType.char)) ∈ lw_all := lw_g (lw_at lw_m2 120 rfl) rfl
theorem q430 : (Jvm.Cond.methodLink "java/lang/String" (492 : Nat) ({ cls := "java/lang/String", name := "isLatin1", desc := "()Z" } : Jvm.MethodName)) ∈ lw_all := lw_g (lw_at lw_m2 121 rfl) rfl
theorem q431 : (Jvm.Cond.instanceMethod ({ cls := "java/lang/String", name := "isLatin1", desc := "()Z" } : Jvm.MethodName)) ∈ lw_all := lw_g (lw_at lw_m2 122 rfl) rfl
theorem q432 : (Jvm.Cond.selects "java/lang/String" ({ cls := "java/lang/String", name := "isLatin1", desc := "()Z" } : Jvm.MethodName) ({ cls := "java/lang/String", name := "isLatin1", desc := "()Z" } : Jvm.MethodName)) ∈ lw_all := lw_g (lw_at lw_m2 123 rfl) rfl
theorem q433 : (Jvm.Cond.code ({ cls := "java/lang/String", name := "isLatin1", desc := "()Z" } : Jvm.MethodName) prog_27_method_154_code (1 : Nat) (Option.some Jvm.ClassFile.FieldType.boolean)) ∈ lw_all := lw_g (lw_at lw_m2 124 rfl) rfl
theorem q434 : (Jvm.Cond.methodLink "java/lang/String" (495 : Nat) ({ cls := "java/lang/StringLatin1", name := "charAt", desc := "([BI)C" } : Jvm.MethodName)) ∈ lw_all := lw_g (lw_at lw_m2 125 rfl) rfl
theorem q438 : (Jvm.Cond.static ({ cls := "java/lang/String", name := "checkIndex", desc := "(II)V" } : Jvm.MethodName)) ∈ lw_all := lw_g (lw_at lw_m2 129 rfl) rfl
theorem q439 : (Jvm.Cond.code ({ cls := "java/lang/String", name := "checkIndex", desc := "(II)V" } : Jvm.MethodName) prog_27_method_155_code (2 : Nat) (Option.none : Option Jvm.ClassFile.FieldType)) ∈ lw_all := lw_g (lw_at lw_m2 130 rfl) rfl
theorem q440 : (Jvm.Cond.fieldLink "java/lang/String" (1053 : Nat) "jdk/internal/util/Preconditions" "SIOOBE_FORMATTER" "Ljava/util/function/BiFunction;") ∈ lw_all := lw_g (lw_at lw_m2 131 rfl) rfl
theorem q442 : (Jvm.Cond.methodLink "java/lang/String" (1059 : Nat) ({ cls := "jdk/internal/util/Preconditions", name := "checkIndex", desc := "(IILjava/util/function/BiFunction;)I" } : Jvm.MethodName)) ∈ lw_all := lw_g (lw_at lw_m2 133 rfl) rfl
theorem q445 : (Jvm.Cond.methodLink "java/lang/String" (498 : Nat) ({ cls := "java/lang/StringUTF16", name := "charAt", desc := "([BI)C" } : Jvm.MethodName)) ∈ lw_all := lw_g (lw_at lw_m2 136 rfl) rfl
theorem q475 : (Jvm.Cond.instanceMethod ({ cls := "java/lang/String", name := "indexOf", desc := "(I)I" } : Jvm.MethodName)) ∈ lw_all := lw_g (lw_at lw_m2 166 rfl) rfl
theorem q476 : (Jvm.Cond.selects "java/lang/String" ({ cls := "java/lang/String", name := "indexOf", desc := "(I)I" } : Jvm.MethodName) ({ cls := "java/lang/String", name := "indexOf", desc := "(I)I" } : Jvm.MethodName)) ∈ lw_all := lw_g (lw_at lw_m2 167 rfl) rfl
theorem q477 : (Jvm.Cond.code ({ cls := "java/lang/String", name := "indexOf", desc := "(I)I" } : Jvm.MethodName) prog_27_method_79_code (2 : Nat) (Option.some Jvm.ClassFile.FieldType.int)) ∈ lw_all := lw_g (lw_at lw_m2 168 rfl) rfl
theorem q478 : (Jvm.Cond.methodLink "java/lang/String" (633 : Nat) ({ cls := "java/lang/String", name := "indexOf", desc := "(II)I" } : Jvm.MethodName)) ∈ lw_all := lw_g (lw_at lw_m2 169 rfl) rfl
theorem q479 : (Jvm.Cond.instanceMethod ({ cls := "java/lang/String", name := "indexOf", desc := "(II)I" } : Jvm.MethodName)) ∈ lw_all := lw_g (lw_at lw_m2 170 rfl) rfl
theorem q480 : (Jvm.Cond.selects "java/lang/String" ({ cls := "java/lang/String", name := "indexOf", desc := "(II)I" } : Jvm.MethodName) ({ cls := "java/lang/String", name := "indexOf", desc := "(II)I" } : Jvm.MethodName)) ∈ lw_all := lw_g (lw_at lw_m2 171 rfl) rfl
theorem q481 : (Jvm.Cond.code ({ cls := "java/lang/String", name := "indexOf", desc := "(II)I" } : Jvm.MethodName) prog_27_method_80_code (3 : Nat) (Option.some Jvm.ClassFile.FieldType.int)) ∈ lw_all := lw_g (lw_at lw_m2 172 rfl) rfl
theorem q482 : (Jvm.Cond.methodLink "java/lang/String" (505 : Nat) ({ cls := "java/lang/String", name := "length", desc := "()I" } : Jvm.MethodName)) ∈ lw_all := lw_g (lw_at lw_m2 173 rfl) rfl
theorem q483 : (Jvm.Cond.methodLink "java/lang/String" (637 : Nat) ({ cls := "java/lang/StringLatin1", name := "indexOf", desc := "([BIII)I" } : Jvm.MethodName)) ∈ lw_all := lw_g (lw_at lw_m2 174 rfl) rfl
theorem q494 : (Jvm.Cond.methodLink "java/lang/String" (640 : Nat) ({ cls := "java/lang/StringUTF16", name := "indexOf", desc := "([BIII)I" } : Jvm.MethodName)) ∈ lw_all := lw_g (lw_at lw_m2 185 rfl) rfl
theorem q507 : (Jvm.Cond.static ({ cls := "java/lang/String", name := "checkBoundsBeginEnd", desc := "(III)V" } : Jvm.MethodName)) ∈ lw_all := lw_g (lw_at lw_m2 198 rfl) rfl
theorem q508 : (Jvm.Cond.code ({ cls := "java/lang/String", name := "checkBoundsBeginEnd", desc := "(III)V" } : Jvm.MethodName) prog_27_method_158_code (3 : Nat) (Option.none : Option Jvm.ClassFile.FieldType)) ∈ lw_all := lw_g (lw_at lw_m2 199 rfl) rfl
theorem q509 : (Jvm.Cond.methodLink "java/lang/String" (1062 : Nat) ({ cls := "jdk/internal/util/Preconditions", name := "checkFromToIndex", desc := "(IIILjava/util/function/BiFunction;)I" } : Jvm.MethodName)) ∈ lw_all := lw_g (lw_at lw_m2 200 rfl) rfl
theorem q1065 : (Jvm.Cond.instantiable "java/lang/String" (4 : Nat)) ∈ lw_all := lw_g (lw_at lw_m5 36 rfl) rfl
theorem q1066 : (Jvm.Cond.laysFinal "java/lang/String" "java/lang/String" "value" "[B") ∈ lw_all := lw_g (lw_at lw_m5 37 rfl) rfl
theorem q1067 : (Jvm.Cond.soleField "java/lang/String" "value") ∈ lw_all := lw_g (lw_at lw_m5 38 rfl) rfl
theorem q1068 : (Jvm.Cond.laysFinal "java/lang/String" "java/lang/String" "coder" "B") ∈ lw_all := lw_g (lw_at lw_m5 39 rfl) rfl
theorem q1069 : (Jvm.Cond.soleField "java/lang/String" "coder") ∈ lw_all := lw_g (lw_at lw_m5 40 rfl) rfl
theorem q1563 : (Jvm.Cond.fieldLink "java/lang/String" (9 : Nat) "java/lang/String" "value" "[B") ∈ lw_all := lw_g (lw_at lw_m7 54 rfl) rfl
theorem q1564 : (Jvm.Cond.fieldLink "java/lang/String" (15 : Nat) "java/lang/String" "coder" "B") ∈ lw_all := lw_g (lw_at lw_m7 55 rfl) rfl
theorem in_J3 : ∀ w ∈ wsJ30, w ∈ lw_all := lw_in wsJ30 [1066, 1068] (by decide +kernel) (by decide +kernel)
/-! java/lang/StringLatin1 -/
set_option maxRecDepth 100000
def RJ4 : String := "java/lang/StringLatin1"
abbrev cJ4_charAt : ByteArray := prog_28_method_2_code
def yJ4_charAt : MethodName := ⟨RJ4, "charAt", "([BI)C"⟩
def dkwJ4_charAt_0 : List UInt8 := [27, 42, 190, 184, 0, 9, 42, 27, 51, 17, 0, 255, 126, 146, 172]
abbrev dktJ4_charAt_0 : List UInt8 := dkwJ4_charAt_0 ++ []
theorem dksJ4_charAt_0 : cJ4_charAt.data.toList.drop 0 = dktJ4_charAt_0 := by decide +kernel
theorem dJ4_charAt_0 : decode cJ4_charAt 0 = .ok (.iload_n 1, 1) := dk_27 (dk_at dksJ4_charAt_0 0 rfl rfl)
theorem dJ4_charAt_1 : decode cJ4_charAt 1 = .ok (.aload_n 0, 1) := dk_42 (dk_at dksJ4_charAt_0 1 rfl rfl)
theorem dJ4_charAt_2 : decode cJ4_charAt 2 = .ok (.arraylength, 1) := dk_190 (dk_at dksJ4_charAt_0 2 rfl rfl)
theorem dJ4_charAt_3 : decode cJ4_charAt 3 = .ok (.invokestatic 9, 3) := dk_184 0 9 (dk_at dksJ4_charAt_0 3 rfl rfl)
theorem dJ4_charAt_6 : decode cJ4_charAt 6 = .ok (.aload_n 0, 1) := dk_42 (dk_at dksJ4_charAt_0 6 rfl rfl)
theorem dJ4_charAt_7 : decode cJ4_charAt 7 = .ok (.iload_n 1, 1) := dk_27 (dk_at dksJ4_charAt_0 7 rfl rfl)
theorem dJ4_charAt_8 : decode cJ4_charAt 8 = .ok (.baload, 1) := dk_51 (dk_at dksJ4_charAt_0 8 rfl rfl)
theorem dJ4_charAt_9 : decode cJ4_charAt 9 = .ok (.sipush 255, 3) := dk_17 0 255 (dk_at dksJ4_charAt_0 9 rfl rfl)
theorem dJ4_charAt_12 : decode cJ4_charAt 12 = .ok (.iand, 1) := dk_126 (dk_at dksJ4_charAt_0 12 rfl rfl)
theorem dJ4_charAt_13 : decode cJ4_charAt 13 = .ok (.i2c, 1) := dk_146 (dk_at dksJ4_charAt_0 13 rfl rfl)
theorem dJ4_charAt_14 : decode cJ4_charAt 14 = .ok (.ireturn, 1) := dk_172 (dk_at dksJ4_charAt_0 14 rfl rfl)
abbrev cJ4_indexOf : ByteArray := prog_28_method_22_code
def yJ4_indexOf : MethodName := ⟨RJ4, "indexOf", "([BIII)I"⟩
def dkwJ4_indexOf_1 : List UInt8 := [161, 0, 5, 2, 172, 42, 27, 28, 29, 184, 0, 95, 172]
abbrev dktJ4_indexOf_1 : List UInt8 := dkwJ4_indexOf_1 ++ []
def dkwJ4_indexOf_0 : List UInt8 := [27, 184, 0, 88, 154, 0, 5, 2, 172, 28, 3, 184, 0, 92, 61, 29, 42, 190, 184, 0, 38, 62, 28, 29]
abbrev dktJ4_indexOf_0 : List UInt8 := dkwJ4_indexOf_0 ++ dktJ4_indexOf_1
theorem dksJ4_indexOf_0 : cJ4_indexOf.data.toList.drop 0 = dktJ4_indexOf_0 := by decide +kernel
theorem dksJ4_indexOf_1 : cJ4_indexOf.data.toList.drop 24 = dktJ4_indexOf_1 := dk_seg dksJ4_indexOf_0 24 rfl rfl
theorem dJ4_indexOf_0 : decode cJ4_indexOf 0 = .ok (.iload_n 1, 1) := dk_27 (dk_at dksJ4_indexOf_0 0 rfl rfl)
theorem dJ4_indexOf_1 : decode cJ4_indexOf 1 = .ok (.invokestatic 88, 3) := dk_184 0 88 (dk_at dksJ4_indexOf_0 1 rfl rfl)
theorem dJ4_indexOf_4 : decode cJ4_indexOf 4 = .ok (.ifCond .ne 5, 3) := dk_154 0 5 (dk_at dksJ4_indexOf_0 4 rfl rfl)
theorem dJ4_indexOf_7 : decode cJ4_indexOf 7 = .ok (.iconst (-1), 1) := dk_2 (dk_at dksJ4_indexOf_0 7 rfl rfl)
theorem dJ4_indexOf_8 : decode cJ4_indexOf 8 = .ok (.ireturn, 1) := dk_172 (dk_at dksJ4_indexOf_0 8 rfl rfl)
theorem dJ4_indexOf_9 : decode cJ4_indexOf 9 = .ok (.iload_n 2, 1) := dk_28 (dk_at dksJ4_indexOf_0 9 rfl rfl)
theorem dJ4_indexOf_10 : decode cJ4_indexOf 10 = .ok (.iconst 0, 1) := dk_3 (dk_at dksJ4_indexOf_0 10 rfl rfl)
theorem dJ4_indexOf_11 : decode cJ4_indexOf 11 = .ok (.invokestatic 92, 3) := dk_184 0 92 (dk_at dksJ4_indexOf_0 11 rfl rfl)
theorem dJ4_indexOf_14 : decode cJ4_indexOf 14 = .ok (.istore_n 2, 1) := dk_61 (dk_at dksJ4_indexOf_0 14 rfl rfl)
theorem dJ4_indexOf_15 : decode cJ4_indexOf 15 = .ok (.iload_n 3, 1) := dk_29 (dk_at dksJ4_indexOf_0 15 rfl rfl)
theorem dJ4_indexOf_16 : decode cJ4_indexOf 16 = .ok (.aload_n 0, 1) := dk_42 (dk_at dksJ4_indexOf_0 16 rfl rfl)
theorem dJ4_indexOf_17 : decode cJ4_indexOf 17 = .ok (.arraylength, 1) := dk_190 (dk_at dksJ4_indexOf_0 17 rfl rfl)
theorem dJ4_indexOf_18 : decode cJ4_indexOf 18 = .ok (.invokestatic 38, 3) := dk_184 0 38 (dk_at dksJ4_indexOf_0 18 rfl rfl)
theorem dJ4_indexOf_21 : decode cJ4_indexOf 21 = .ok (.istore_n 3, 1) := dk_62 (dk_at dksJ4_indexOf_0 21 rfl rfl)
theorem dJ4_indexOf_22 : decode cJ4_indexOf 22 = .ok (.iload_n 2, 1) := dk_28 (dk_at dksJ4_indexOf_0 22 rfl rfl)
theorem dJ4_indexOf_23 : decode cJ4_indexOf 23 = .ok (.iload_n 3, 1) := dk_29 (dk_at dksJ4_indexOf_0 23 rfl rfl)
theorem dJ4_indexOf_24 : decode cJ4_indexOf 24 = .ok (.if_icmp .lt 5, 3) := dk_161 0 5 (dk_at dksJ4_indexOf_1 0 rfl rfl)
theorem dJ4_indexOf_27 : decode cJ4_indexOf 27 = .ok (.iconst (-1), 1) := dk_2 (dk_at dksJ4_indexOf_1 3 rfl rfl)
theorem dJ4_indexOf_28 : decode cJ4_indexOf 28 = .ok (.ireturn, 1) := dk_172 (dk_at dksJ4_indexOf_1 4 rfl rfl)
theorem dJ4_indexOf_29 : decode cJ4_indexOf 29 = .ok (.aload_n 0, 1) := dk_42 (dk_at dksJ4_indexOf_1 5 rfl rfl)
theorem dJ4_indexOf_30 : decode cJ4_indexOf 30 = .ok (.iload_n 1, 1) := dk_27 (dk_at dksJ4_indexOf_1 6 rfl rfl)
theorem dJ4_indexOf_31 : decode cJ4_indexOf 31 = .ok (.iload_n 2, 1) := dk_28 (dk_at dksJ4_indexOf_1 7 rfl rfl)
theorem dJ4_indexOf_32 : decode cJ4_indexOf 32 = .ok (.iload_n 3, 1) := dk_29 (dk_at dksJ4_indexOf_1 8 rfl rfl)
theorem dJ4_indexOf_33 : decode cJ4_indexOf 33 = .ok (.invokestatic 95, 3) := dk_184 0 95 (dk_at dksJ4_indexOf_1 9 rfl rfl)
theorem dJ4_indexOf_36 : decode cJ4_indexOf 36 = .ok (.ireturn, 1) := dk_172 (dk_at dksJ4_indexOf_1 12 rfl rfl)
abbrev cJ4_canEncode : ByteArray := prog_28_method_4_code
def yJ4_canEncode : MethodName := ⟨RJ4, "canEncode", "(I)Z"⟩
def dkwJ4_canEncode_0 : List UInt8 := [26, 155, 0, 14, 26, 17, 0, 255, 163, 0, 7, 4, 167, 0, 4, 3, 172]
abbrev dktJ4_canEncode_0 : List UInt8 := dkwJ4_canEncode_0 ++ []
theorem dksJ4_canEncode_0 : cJ4_canEncode.data.toList.drop 0 = dktJ4_canEncode_0 := by decide +kernel
theorem dJ4_canEncode_0 : decode cJ4_canEncode 0 = .ok (.iload_n 0, 1) := dk_26 (dk_at dksJ4_canEncode_0 0 rfl rfl)
theorem dJ4_canEncode_1 : decode cJ4_canEncode 1 = .ok (.ifCond .lt 14, 3) := dk_155 0 14 (dk_at dksJ4_canEncode_0 1 rfl rfl)
theorem dJ4_canEncode_4 : decode cJ4_canEncode 4 = .ok (.iload_n 0, 1) := dk_26 (dk_at dksJ4_canEncode_0 4 rfl rfl)
theorem dJ4_canEncode_5 : decode cJ4_canEncode 5 = .ok (.sipush 255, 3) := dk_17 0 255 (dk_at dksJ4_canEncode_0 5 rfl rfl)
theorem dJ4_canEncode_8 : decode cJ4_canEncode 8 = .ok (.if_icmp .gt 7, 3) := dk_163 0 7 (dk_at dksJ4_canEncode_0 8 rfl rfl)
theorem dJ4_canEncode_11 : decode cJ4_canEncode 11 = .ok (.iconst 1, 1) := dk_4 (dk_at dksJ4_canEncode_0 11 rfl rfl)
theorem dJ4_canEncode_12 : decode cJ4_canEncode 12 = .ok (.goto 4, 3) := dk_167 0 4 (dk_at dksJ4_canEncode_0 12 rfl rfl)
theorem dJ4_canEncode_15 : decode cJ4_canEncode 15 = .ok (.iconst 0, 1) := dk_3 (dk_at dksJ4_canEncode_0 15 rfl rfl)
theorem dJ4_canEncode_16 : decode cJ4_canEncode 16 = .ok (.ireturn, 1) := dk_172 (dk_at dksJ4_canEncode_0 16 rfl rfl)
abbrev cJ4_indexOfChar : ByteArray := prog_28_method_23_code
def yJ4_indexOfChar : MethodName := ⟨RJ4, "indexOfChar", "([BIII)I"⟩
def dkwJ4_indexOfChar_1 : List UInt8 := [172, 132, 5, 1, 167, 255, 235, 2, 172]
abbrev dktJ4_indexOfChar_1 : List UInt8 := dkwJ4_indexOfChar_1 ++ []
def dkwJ4_indexOfChar_0 : List UInt8 := [27, 145, 54, 4, 28, 54, 5, 21, 5, 29, 162, 0, 21, 42, 21, 5, 51, 21, 4, 160, 0, 6, 21, 5]
abbrev dktJ4_indexOfChar_0 : List UInt8 := dkwJ4_indexOfChar_0 ++ dktJ4_indexOfChar_1
theorem dksJ4_indexOfChar_0 : cJ4_indexOfChar.data.toList.drop 0 = dktJ4_indexOfChar_0 := by decide +kernel
theorem dksJ4_indexOfChar_1 : cJ4_indexOfChar.data.toList.drop 24 = dktJ4_indexOfChar_1 := dk_seg dksJ4_indexOfChar_0 24 rfl rfl
theorem dJ4_indexOfChar_0 : decode cJ4_indexOfChar 0 = .ok (.iload_n 1, 1) := dk_27 (dk_at dksJ4_indexOfChar_0 0 rfl rfl)
theorem dJ4_indexOfChar_1 : decode cJ4_indexOfChar 1 = .ok (.i2b, 1) := dk_145 (dk_at dksJ4_indexOfChar_0 1 rfl rfl)
theorem dJ4_indexOfChar_2 : decode cJ4_indexOfChar 2 = .ok (.istore 4, 2) := dk_54 4 (dk_at dksJ4_indexOfChar_0 2 rfl rfl)
theorem dJ4_indexOfChar_4 : decode cJ4_indexOfChar 4 = .ok (.iload_n 2, 1) := dk_28 (dk_at dksJ4_indexOfChar_0 4 rfl rfl)
theorem dJ4_indexOfChar_5 : decode cJ4_indexOfChar 5 = .ok (.istore 5, 2) := dk_54 5 (dk_at dksJ4_indexOfChar_0 5 rfl rfl)
theorem dJ4_indexOfChar_7 : decode cJ4_indexOfChar 7 = .ok (.iload 5, 2) := dk_21 5 (dk_at dksJ4_indexOfChar_0 7 rfl rfl)
theorem dJ4_indexOfChar_9 : decode cJ4_indexOfChar 9 = .ok (.iload_n 3, 1) := dk_29 (dk_at dksJ4_indexOfChar_0 9 rfl rfl)
theorem dJ4_indexOfChar_10 : decode cJ4_indexOfChar 10 = .ok (.if_icmp .ge 21, 3) := dk_162 0 21 (dk_at dksJ4_indexOfChar_0 10 rfl rfl)
theorem dJ4_indexOfChar_13 : decode cJ4_indexOfChar 13 = .ok (.aload_n 0, 1) := dk_42 (dk_at dksJ4_indexOfChar_0 13 rfl rfl)
theorem dJ4_indexOfChar_14 : decode cJ4_indexOfChar 14 = .ok (.iload 5, 2) := dk_21 5 (dk_at dksJ4_indexOfChar_0 14 rfl rfl)
theorem dJ4_indexOfChar_16 : decode cJ4_indexOfChar 16 = .ok (.baload, 1) := dk_51 (dk_at dksJ4_indexOfChar_0 16 rfl rfl)
theorem dJ4_indexOfChar_17 : decode cJ4_indexOfChar 17 = .ok (.iload 4, 2) := dk_21 4 (dk_at dksJ4_indexOfChar_0 17 rfl rfl)
theorem dJ4_indexOfChar_19 : decode cJ4_indexOfChar 19 = .ok (.if_icmp .ne 6, 3) := dk_160 0 6 (dk_at dksJ4_indexOfChar_0 19 rfl rfl)
theorem dJ4_indexOfChar_22 : decode cJ4_indexOfChar 22 = .ok (.iload 5, 2) := dk_21 5 (dk_at dksJ4_indexOfChar_0 22 rfl rfl)
theorem dJ4_indexOfChar_24 : decode cJ4_indexOfChar 24 = .ok (.ireturn, 1) := dk_172 (dk_at dksJ4_indexOfChar_1 0 rfl rfl)
theorem dJ4_indexOfChar_25 : decode cJ4_indexOfChar 25 = .ok (.iinc 5 1, 3) := dk_132 5 1 (dk_at dksJ4_indexOfChar_1 1 rfl rfl)
theorem dJ4_indexOfChar_28 : decode cJ4_indexOfChar 28 = .ok (.goto (-21), 3) := dk_167 255 235 (dk_at dksJ4_indexOfChar_1 4 rfl rfl)
theorem dJ4_indexOfChar_31 : decode cJ4_indexOfChar 31 = .ok (.iconst (-1), 1) := dk_2 (dk_at dksJ4_indexOfChar_1 7 rfl rfl)
theorem dJ4_indexOfChar_32 : decode cJ4_indexOfChar 32 = .ok (.ireturn, 1) := dk_172 (dk_at dksJ4_indexOfChar_1 8 rfl rfl)
theorem q77 : (Jvm.Cond.initialized "java/lang/StringLatin1") ∈ lw_all := lw_g (lw_at lw_m1 8 rfl) rfl
theorem q435 : (Jvm.Cond.static ({ cls := "java/lang/StringLatin1", name := "charAt", desc := "([BI)C" } : Jvm.MethodName)) ∈ lw_all := lw_g (lw_at lw_m2 126 rfl) rfl
theorem q436 : (Jvm.Cond.code ({ cls := "java/lang/StringLatin1", name := "charAt", desc := "([BI)C" } : Jvm.MethodName) prog_28_method_2_code (2 : Nat) (Option.some Jvm.ClassFile.FieldType.char)) ∈ lw_all := lw_g (lw_at lw_m2 127 rfl) rfl
theorem q437 : (Jvm.Cond.methodLink "java/lang/StringLatin1" (9 : Nat) ({ cls := "java/lang/String", name := "checkIndex", desc := "(II)V" } : Jvm.MethodName)) ∈ lw_all := lw_g (lw_at lw_m2 128 rfl) rfl
theorem q484 : (Jvm.Cond.static ({ cls := "java/lang/StringLatin1", name := "indexOf", desc := "([BIII)I" } : Jvm.MethodName)) ∈ lw_all := lw_g (lw_at lw_m2 175 rfl) rfl
theorem q485 : (Jvm.Cond.code ({ cls := "java/lang/StringLatin1", name := "indexOf", desc := "([BIII)I" } : Jvm.MethodName) prog_28_method_22_code (4 : Nat) (Option.some Jvm.ClassFile.FieldType.int)) ∈ lw_all := lw_g (lw_at lw_m2 176 rfl) rfl
theorem q486 : (Jvm.Cond.methodLink "java/lang/StringLatin1" (88 : Nat) ({ cls := "java/lang/StringLatin1", name := "canEncode", desc := "(I)Z" } : Jvm.MethodName)) ∈ lw_all := lw_g (lw_at lw_m2 177 rfl) rfl
theorem q487 : (Jvm.Cond.static ({ cls := "java/lang/StringLatin1", name := "canEncode", desc := "(I)Z" } : Jvm.MethodName)) ∈ lw_all := lw_g (lw_at lw_m2 178 rfl) rfl
theorem q488 : (Jvm.Cond.code ({ cls := "java/lang/StringLatin1", name := "canEncode", desc := "(I)Z" } : Jvm.MethodName) prog_28_method_4_code (1 : Nat) (Option.some Jvm.ClassFile.FieldType.boolean)) ∈ lw_all := lw_g (lw_at lw_m2 179 rfl) rfl
theorem q489 : (Jvm.Cond.methodLink "java/lang/StringLatin1" (92 : Nat) ({ cls := "java/lang/Math", name := "max", desc := "(II)I" } : Jvm.MethodName)) ∈ lw_all := lw_g (lw_at lw_m2 180 rfl) rfl
theorem q490 : (Jvm.Cond.methodLink "java/lang/StringLatin1" (38 : Nat) ({ cls := "java/lang/Math", name := "min", desc := "(II)I" } : Jvm.MethodName)) ∈ lw_all := lw_g (lw_at lw_m2 181 rfl) rfl
theorem q491 : (Jvm.Cond.methodLink "java/lang/StringLatin1" (95 : Nat) ({ cls := "java/lang/StringLatin1", name := "indexOfChar", desc := "([BIII)I" } : Jvm.MethodName)) ∈ lw_all := lw_g (lw_at lw_m2 182 rfl) rfl
theorem q492 : (Jvm.Cond.static ({ cls := "java/lang/StringLatin1", name := "indexOfChar", desc := "([BIII)I" } : Jvm.MethodName)) ∈ lw_all := lw_g (lw_at lw_m2 183 rfl) rfl
theorem q493 : (Jvm.Cond.code ({ cls := "java/lang/StringLatin1", name := "indexOfChar", desc := "([BIII)I" } : Jvm.MethodName) prog_28_method_23_code (6 : Nat) (Option.some Jvm.ClassFile.FieldType.int)) ∈ lw_all := lw_g (lw_at lw_m2 184 rfl) rfl
/-! jdk/internal/util/Preconditions -/
set_option maxRecDepth 100000
def RJ5 : String := "jdk/internal/util/Preconditions"
abbrev cJ5_checkIndex : ByteArray := prog_32_method_11_code
def yJ5_checkIndex : MethodName := ⟨RJ5, "checkIndex", "(IILjava/util/function/BiFunction;)I"⟩
def dkwJ5_checkIndex_0 : List UInt8 := [26, 155, 0, 8, 26, 27, 161, 0, 10, 44, 26, 27, 184, 0, 95, 191, 26, 172]
abbrev dktJ5_checkIndex_0 : List UInt8 := dkwJ5_checkIndex_0 ++ []
theorem dksJ5_checkIndex_0 : cJ5_checkIndex.data.toList.drop 0 = dktJ5_checkIndex_0 := by decide +kernel
theorem dJ5_checkIndex_0 : decode cJ5_checkIndex 0 = .ok (.iload_n 0, 1) := dk_26 (dk_at dksJ5_checkIndex_0 0 rfl rfl)
theorem dJ5_checkIndex_1 : decode cJ5_checkIndex 1 = .ok (.ifCond .lt 8, 3) := dk_155 0 8 (dk_at dksJ5_checkIndex_0 1 rfl rfl)
theorem dJ5_checkIndex_4 : decode cJ5_checkIndex 4 = .ok (.iload_n 0, 1) := dk_26 (dk_at dksJ5_checkIndex_0 4 rfl rfl)
theorem dJ5_checkIndex_5 : decode cJ5_checkIndex 5 = .ok (.iload_n 1, 1) := dk_27 (dk_at dksJ5_checkIndex_0 5 rfl rfl)
theorem dJ5_checkIndex_6 : decode cJ5_checkIndex 6 = .ok (.if_icmp .lt 10, 3) := dk_161 0 10 (dk_at dksJ5_checkIndex_0 6 rfl rfl)
theorem dJ5_checkIndex_9 : decode cJ5_checkIndex 9 = .ok (.aload_n 2, 1) := dk_44 (dk_at dksJ5_checkIndex_0 9 rfl rfl)
theorem dJ5_checkIndex_10 : decode cJ5_checkIndex 10 = .ok (.iload_n 0, 1) := dk_26 (dk_at dksJ5_checkIndex_0 10 rfl rfl)
theorem dJ5_checkIndex_11 : decode cJ5_checkIndex 11 = .ok (.iload_n 1, 1) := dk_27 (dk_at dksJ5_checkIndex_0 11 rfl rfl)
theorem dJ5_checkIndex_12 : decode cJ5_checkIndex 12 = .ok (.invokestatic 95, 3) := dk_184 0 95 (dk_at dksJ5_checkIndex_0 12 rfl rfl)
theorem dJ5_checkIndex_15 : decode cJ5_checkIndex 15 = .ok (.athrow, 1) := dk_191 (dk_at dksJ5_checkIndex_0 15 rfl rfl)
theorem dJ5_checkIndex_16 : decode cJ5_checkIndex 16 = .ok (.iload_n 0, 1) := dk_26 (dk_at dksJ5_checkIndex_0 16 rfl rfl)
theorem dJ5_checkIndex_17 : decode cJ5_checkIndex 17 = .ok (.ireturn, 1) := dk_172 (dk_at dksJ5_checkIndex_0 17 rfl rfl)
abbrev cJ5_checkFromToIndex : ByteArray := prog_32_method_12_code
def yJ5_checkFromToIndex : MethodName := ⟨RJ5, "checkFromToIndex", "(IIILjava/util/function/BiFunction;)I"⟩
def dkwJ5_checkFromToIndex_0 : List UInt8 := [26, 155, 0, 13, 26, 27, 163, 0, 8, 27, 28, 164, 0, 11, 45, 26, 27, 28, 184, 0, 99, 191, 26, 172]
abbrev dktJ5_checkFromToIndex_0 : List UInt8 := dkwJ5_checkFromToIndex_0 ++ []
theorem dksJ5_checkFromToIndex_0 : cJ5_checkFromToIndex.data.toList.drop 0 = dktJ5_checkFromToIndex_0 := by decide +kernel
theorem dJ5_checkFromToIndex_0 : decode cJ5_checkFromToIndex 0 = .ok (.iload_n 0, 1) := dk_26 (dk_at dksJ5_checkFromToIndex_0 0 rfl rfl)
theorem dJ5_checkFromToIndex_1 : decode cJ5_checkFromToIndex 1 = .ok (.ifCond .lt 13, 3) := dk_155 0 13 (dk_at dksJ5_checkFromToIndex_0 1 rfl rfl)
theorem dJ5_checkFromToIndex_4 : decode cJ5_checkFromToIndex 4 = .ok (.iload_n 0, 1) := dk_26 (dk_at dksJ5_checkFromToIndex_0 4 rfl rfl)
theorem dJ5_checkFromToIndex_5 : decode cJ5_checkFromToIndex 5 = .ok (.iload_n 1, 1) := dk_27 (dk_at dksJ5_checkFromToIndex_0 5 rfl rfl)
theorem dJ5_checkFromToIndex_6 : decode cJ5_checkFromToIndex 6 = .ok (.if_icmp .gt 8, 3) := dk_163 0 8 (dk_at dksJ5_checkFromToIndex_0 6 rfl rfl)
theorem dJ5_checkFromToIndex_9 : decode cJ5_checkFromToIndex 9 = .ok (.iload_n 1, 1) := dk_27 (dk_at dksJ5_checkFromToIndex_0 9 rfl rfl)
theorem dJ5_checkFromToIndex_10 : decode cJ5_checkFromToIndex 10 = .ok (.iload_n 2, 1) := dk_28 (dk_at dksJ5_checkFromToIndex_0 10 rfl rfl)
theorem dJ5_checkFromToIndex_11 : decode cJ5_checkFromToIndex 11 = .ok (.if_icmp .le 11, 3) := dk_164 0 11 (dk_at dksJ5_checkFromToIndex_0 11 rfl rfl)
theorem dJ5_checkFromToIndex_14 : decode cJ5_checkFromToIndex 14 = .ok (.aload_n 3, 1) := dk_45 (dk_at dksJ5_checkFromToIndex_0 14 rfl rfl)
theorem dJ5_checkFromToIndex_15 : decode cJ5_checkFromToIndex 15 = .ok (.iload_n 0, 1) := dk_26 (dk_at dksJ5_checkFromToIndex_0 15 rfl rfl)
theorem dJ5_checkFromToIndex_16 : decode cJ5_checkFromToIndex 16 = .ok (.iload_n 1, 1) := dk_27 (dk_at dksJ5_checkFromToIndex_0 16 rfl rfl)
theorem dJ5_checkFromToIndex_17 : decode cJ5_checkFromToIndex 17 = .ok (.iload_n 2, 1) := dk_28 (dk_at dksJ5_checkFromToIndex_0 17 rfl rfl)
theorem dJ5_checkFromToIndex_18 : decode cJ5_checkFromToIndex 18 = .ok (.invokestatic 99, 3) := dk_184 0 99 (dk_at dksJ5_checkFromToIndex_0 18 rfl rfl)
theorem dJ5_checkFromToIndex_21 : decode cJ5_checkFromToIndex 21 = .ok (.athrow, 1) := dk_191 (dk_at dksJ5_checkFromToIndex_0 21 rfl rfl)
theorem dJ5_checkFromToIndex_22 : decode cJ5_checkFromToIndex 22 = .ok (.iload_n 0, 1) := dk_26 (dk_at dksJ5_checkFromToIndex_0 22 rfl rfl)
theorem dJ5_checkFromToIndex_23 : decode cJ5_checkFromToIndex 23 = .ok (.ireturn, 1) := dk_172 (dk_at dksJ5_checkFromToIndex_0 23 rfl rfl)
theorem q78 : (Jvm.Cond.initialized "jdk/internal/util/Preconditions") ∈ lw_all := lw_g (lw_at lw_m1 9 rfl) rfl
theorem q441 : (Jvm.Cond.laysStatic "jdk/internal/util/Preconditions" "SIOOBE_FORMATTER" "Ljava/util/function/BiFunction;") ∈ lw_tbl := lw_at lw_m2 132 rfl
theorem q443 : (Jvm.Cond.static ({ cls := "jdk/internal/util/Preconditions", name := "checkIndex", desc := "(IILjava/util/function/BiFunction;)I" } : Jvm.MethodName)) ∈ lw_all := lw_g (lw_at lw_m2 134 rfl) rfl
theorem q444 : (Jvm.Cond.code ({ cls := "jdk/internal/util/Preconditions", name := "checkIndex", desc := "(IILjava/util/function/BiFunction;)I" } : Jvm.MethodName) prog_32_method_11_code (3 : Nat) (Option.some Jvm.ClassFile.FieldType.int)) ∈ lw_all := lw_g (lw_at lw_m2 135 rfl) rfl
theorem q510 : (Jvm.Cond.static ({ cls := "jdk/internal/util/Preconditions", name := "checkFromToIndex", desc := "(IIILjava/util/function/BiFunction;)I" } : Jvm.MethodName)) ∈ lw_all := lw_g (lw_at lw_m2 201 rfl) rfl
theorem q511 : (Jvm.Cond.code ({ cls := "jdk/internal/util/Preconditions", name := "checkFromToIndex", desc := "(IIILjava/util/function/BiFunction;)I" } : Jvm.MethodName) prog_32_method_12_code (4 : Nat) (Option.some Jvm.ClassFile.FieldType.int)) ∈ lw_all := lw_g (lw_at lw_m2 202 rfl) rfl
/-! java/lang/StringUTF16 -/
set_option maxRecDepth 100000
def RJ6 : String := "java/lang/StringUTF16"
abbrev cJ6_charAt : ByteArray := prog_29_method_83_code
def yJ6_charAt : MethodName := ⟨RJ6, "charAt", "([BI)C"⟩
def dkwJ6_charAt_0 : List UInt8 := [27, 42, 184, 0, 67, 42, 27, 184, 0, 71, 172]
abbrev dktJ6_charAt_0 : List UInt8 := dkwJ6_charAt_0 ++ []
theorem dksJ6_charAt_0 : cJ6_charAt.data.toList.drop 0 = dktJ6_charAt_0 := by decide +kernel
theorem dJ6_charAt_0 : decode cJ6_charAt 0 = .ok (.iload_n 1, 1) := dk_27 (dk_at dksJ6_charAt_0 0 rfl rfl)
theorem dJ6_charAt_1 : decode cJ6_charAt 1 = .ok (.aload_n 0, 1) := dk_42 (dk_at dksJ6_charAt_0 1 rfl rfl)
theorem dJ6_charAt_2 : decode cJ6_charAt 2 = .ok (.invokestatic 67, 3) := dk_184 0 67 (dk_at dksJ6_charAt_0 2 rfl rfl)
theorem dJ6_charAt_5 : decode cJ6_charAt 5 = .ok (.aload_n 0, 1) := dk_42 (dk_at dksJ6_charAt_0 5 rfl rfl)
theorem dJ6_charAt_6 : decode cJ6_charAt 6 = .ok (.iload_n 1, 1) := dk_27 (dk_at dksJ6_charAt_0 6 rfl rfl)
theorem dJ6_charAt_7 : decode cJ6_charAt 7 = .ok (.invokestatic 71, 3) := dk_184 0 71 (dk_at dksJ6_charAt_0 7 rfl rfl)
theorem dJ6_charAt_10 : decode cJ6_charAt 10 = .ok (.ireturn, 1) := dk_172 (dk_at dksJ6_charAt_0 10 rfl rfl)
abbrev cJ6_checkIndex : ByteArray := prog_29_method_91_code
def yJ6_checkIndex : MethodName := ⟨RJ6, "checkIndex", "(I[B)V"⟩
def dkwJ6_checkIndex_0 : List UInt8 := [26, 43, 184, 0, 48, 184, 1, 158, 177]
abbrev dktJ6_checkIndex_0 : List UInt8 := dkwJ6_checkIndex_0 ++ []
theorem dksJ6_checkIndex_0 : cJ6_checkIndex.data.toList.drop 0 = dktJ6_checkIndex_0 := by decide +kernel
theorem dJ6_checkIndex_0 : decode cJ6_checkIndex 0 = .ok (.iload_n 0, 1) := dk_26 (dk_at dksJ6_checkIndex_0 0 rfl rfl)
theorem dJ6_checkIndex_1 : decode cJ6_checkIndex 1 = .ok (.aload_n 1, 1) := dk_43 (dk_at dksJ6_checkIndex_0 1 rfl rfl)
theorem dJ6_checkIndex_2 : decode cJ6_checkIndex 2 = .ok (.invokestatic 48, 3) := dk_184 0 48 (dk_at dksJ6_checkIndex_0 2 rfl rfl)
theorem dJ6_checkIndex_5 : decode cJ6_checkIndex 5 = .ok (.invokestatic 414, 3) := dk_184 1 158 (dk_at dksJ6_checkIndex_0 5 rfl rfl)
theorem dJ6_checkIndex_8 : decode cJ6_checkIndex 8 = .ok (.return_, 1) := dk_177 (dk_at dksJ6_checkIndex_0 8 rfl rfl)
abbrev cJ6_length : ByteArray := prog_29_method_6_code
def yJ6_length : MethodName := ⟨RJ6, "length", "([B)I"⟩
def dkwJ6_length_0 : List UInt8 := [42, 190, 4, 122, 172]
abbrev dktJ6_length_0 : List UInt8 := dkwJ6_length_0 ++ []
theorem dksJ6_length_0 : cJ6_length.data.toList.drop 0 = dktJ6_length_0 := by decide +kernel
theorem dJ6_length_0 : decode cJ6_length 0 = .ok (.aload_n 0, 1) := dk_42 (dk_at dksJ6_length_0 0 rfl rfl)
theorem dJ6_length_1 : decode cJ6_length 1 = .ok (.arraylength, 1) := dk_190 (dk_at dksJ6_length_0 1 rfl rfl)
theorem dJ6_length_2 : decode cJ6_length 2 = .ok (.iconst 1, 1) := dk_4 (dk_at dksJ6_length_0 2 rfl rfl)
theorem dJ6_length_3 : decode cJ6_length 3 = .ok (.ishr, 1) := dk_122 (dk_at dksJ6_length_0 3 rfl rfl)
theorem dJ6_length_4 : decode cJ6_length 4 = .ok (.ireturn, 1) := dk_172 (dk_at dksJ6_length_0 4 rfl rfl)
abbrev cJ6_getChar : ByteArray := prog_29_method_5_code
def yJ6_getChar : MethodName := ⟨RJ6, "getChar", "([BI)C"⟩
def dkwJ6_getChar_2 : List UInt8 := [51, 17, 0, 255, 126, 178, 0, 63, 120, 128, 146, 172]
abbrev dktJ6_getChar_2 : List UInt8 := dkwJ6_getChar_2 ++ []
def dkwJ6_getChar_1 : List UInt8 := [183, 0, 56, 191, 27, 4, 120, 60, 42, 27, 132, 1, 1, 51, 17, 0, 255, 126, 178, 0, 59, 120, 42, 27]
abbrev dktJ6_getChar_1 : List UInt8 := dkwJ6_getChar_1 ++ dktJ6_getChar_2
def dkwJ6_getChar_0 : List UInt8 := [178, 0, 44, 154, 0, 25, 27, 155, 0, 11, 27, 42, 184, 0, 48, 161, 0, 13, 187, 0, 52, 89, 18, 54]
abbrev dktJ6_getChar_0 : List UInt8 := dkwJ6_getChar_0 ++ dktJ6_getChar_1
theorem dksJ6_getChar_0 : cJ6_getChar.data.toList.drop 0 = dktJ6_getChar_0 := by decide +kernel
theorem dksJ6_getChar_1 : cJ6_getChar.data.toList.drop 24 = dktJ6_getChar_1 := dk_seg dksJ6_getChar_0 24 rfl rfl
theorem dksJ6_getChar_2 : cJ6_getChar.data.toList.drop 48 = dktJ6_getChar_2 := dk_seg dksJ6_getChar_1 24 rfl rfl
theorem dJ6_getChar_0 : decode cJ6_getChar 0 = .ok (.getstatic 44, 3) := dk_178 0 44 (dk_at dksJ6_getChar_0 0 rfl rfl)
theorem dJ6_getChar_3 : decode cJ6_getChar 3 = .ok (.ifCond .ne 25, 3) := dk_154 0 25 (dk_at dksJ6_getChar_0 3 rfl rfl)
theorem dJ6_getChar_6 : decode cJ6_getChar 6 = .ok (.iload_n 1, 1) := dk_27 (dk_at dksJ6_getChar_0 6 rfl rfl)
theorem dJ6_getChar_7 : decode cJ6_getChar 7 = .ok (.ifCond .lt 11, 3) := dk_155 0 11 (dk_at dksJ6_getChar_0 7 rfl rfl)
theorem dJ6_getChar_10 : decode cJ6_getChar 10 = .ok (.iload_n 1, 1) := dk_27 (dk_at dksJ6_getChar_0 10 rfl rfl)
theorem dJ6_getChar_11 : decode cJ6_getChar 11 = .ok (.aload_n 0, 1) := dk_42 (dk_at dksJ6_getChar_0 11 rfl rfl)
theorem dJ6_getChar_12 : decode cJ6_getChar 12 = .ok (.invokestatic 48, 3) := dk_184 0 48 (dk_at dksJ6_getChar_0 12 rfl rfl)
theorem dJ6_getChar_15 : decode cJ6_getChar 15 = .ok (.if_icmp .lt 13, 3) := dk_161 0 13 (dk_at dksJ6_getChar_0 15 rfl rfl)
theorem dJ6_getChar_18 : decode cJ6_getChar 18 = .ok (.new 52, 3) := dk_187 0 52 (dk_at dksJ6_getChar_0 18 rfl rfl)
theorem dJ6_getChar_21 : decode cJ6_getChar 21 = .ok (.dup, 1) := dk_89 (dk_at dksJ6_getChar_0 21 rfl rfl)
theorem dJ6_getChar_22 : decode cJ6_getChar 22 = .ok (.ldc 54, 2) := dk_18 54 (dk_at dksJ6_getChar_0 22 rfl rfl)
theorem dJ6_getChar_24 : decode cJ6_getChar 24 = .ok (.invokespecial 56, 3) := dk_183 0 56 (dk_at dksJ6_getChar_1 0 rfl rfl)
theorem dJ6_getChar_27 : decode cJ6_getChar 27 = .ok (.athrow, 1) := dk_191 (dk_at dksJ6_getChar_1 3 rfl rfl)
theorem dJ6_getChar_28 : decode cJ6_getChar 28 = .ok (.iload_n 1, 1) := dk_27 (dk_at dksJ6_getChar_1 4 rfl rfl)
theorem dJ6_getChar_29 : decode cJ6_getChar 29 = .ok (.iconst 1, 1) := dk_4 (dk_at dksJ6_getChar_1 5 rfl rfl)
theorem dJ6_getChar_30 : decode cJ6_getChar 30 = .ok (.ishl, 1) := dk_120 (dk_at dksJ6_getChar_1 6 rfl rfl)
theorem dJ6_getChar_31 : decode cJ6_getChar 31 = .ok (.istore_n 1, 1) := dk_60 (dk_at dksJ6_getChar_1 7 rfl rfl)
theorem dJ6_getChar_32 : decode cJ6_getChar 32 = .ok (.aload_n 0, 1) := dk_42 (dk_at dksJ6_getChar_1 8 rfl rfl)
theorem dJ6_getChar_33 : decode cJ6_getChar 33 = .ok (.iload_n 1, 1) := dk_27 (dk_at dksJ6_getChar_1 9 rfl rfl)
theorem dJ6_getChar_34 : decode cJ6_getChar 34 = .ok (.iinc 1 1, 3) := dk_132 1 1 (dk_at dksJ6_getChar_1 10 rfl rfl)
theorem dJ6_getChar_37 : decode cJ6_getChar 37 = .ok (.baload, 1) := dk_51 (dk_at dksJ6_getChar_1 13 rfl rfl)
theorem dJ6_getChar_38 : decode cJ6_getChar 38 = .ok (.sipush 255, 3) := dk_17 0 255 (dk_at dksJ6_getChar_1 14 rfl rfl)
theorem dJ6_getChar_41 : decode cJ6_getChar 41 = .ok (.iand, 1) := dk_126 (dk_at dksJ6_getChar_1 17 rfl rfl)
theorem dJ6_getChar_42 : decode cJ6_getChar 42 = .ok (.getstatic 59, 3) := dk_178 0 59 (dk_at dksJ6_getChar_1 18 rfl rfl)
theorem dJ6_getChar_45 : decode cJ6_getChar 45 = .ok (.ishl, 1) := dk_120 (dk_at dksJ6_getChar_1 21 rfl rfl)
theorem dJ6_getChar_46 : decode cJ6_getChar 46 = .ok (.aload_n 0, 1) := dk_42 (dk_at dksJ6_getChar_1 22 rfl rfl)
theorem dJ6_getChar_47 : decode cJ6_getChar 47 = .ok (.iload_n 1, 1) := dk_27 (dk_at dksJ6_getChar_1 23 rfl rfl)
theorem dJ6_getChar_48 : decode cJ6_getChar 48 = .ok (.baload, 1) := dk_51 (dk_at dksJ6_getChar_2 0 rfl rfl)
theorem dJ6_getChar_49 : decode cJ6_getChar 49 = .ok (.sipush 255, 3) := dk_17 0 255 (dk_at dksJ6_getChar_2 1 rfl rfl)
theorem dJ6_getChar_52 : decode cJ6_getChar 52 = .ok (.iand, 1) := dk_126 (dk_at dksJ6_getChar_2 4 rfl rfl)
theorem dJ6_getChar_53 : decode cJ6_getChar 53 = .ok (.getstatic 63, 3) := dk_178 0 63 (dk_at dksJ6_getChar_2 5 rfl rfl)
theorem dJ6_getChar_56 : decode cJ6_getChar 56 = .ok (.ishl, 1) := dk_120 (dk_at dksJ6_getChar_2 8 rfl rfl)
theorem dJ6_getChar_57 : decode cJ6_getChar 57 = .ok (.ior, 1) := dk_128 (dk_at dksJ6_getChar_2 9 rfl rfl)
theorem dJ6_getChar_58 : decode cJ6_getChar 58 = .ok (.i2c, 1) := dk_146 (dk_at dksJ6_getChar_2 10 rfl rfl)
theorem dJ6_getChar_59 : decode cJ6_getChar 59 = .ok (.ireturn, 1) := dk_172 (dk_at dksJ6_getChar_2 11 rfl rfl)
abbrev cJ6_indexOf : ByteArray := prog_29_method_40_code
def yJ6_indexOf : MethodName := ⟨RJ6, "indexOf", "([BIII)I"⟩
def dkwJ6_indexOf_1 : List UInt8 := [18, 227, 162, 0, 11, 42, 27, 28, 29, 184, 0, 228, 172, 42, 27, 28, 29, 184, 0, 232, 172]
abbrev dktJ6_indexOf_1 : List UInt8 := dkwJ6_indexOf_1 ++ []
def dkwJ6_indexOf_0 : List UInt8 := [28, 3, 184, 0, 224, 61, 29, 42, 190, 4, 122, 184, 0, 183, 62, 28, 29, 161, 0, 5, 2, 172, 27]
abbrev dktJ6_indexOf_0 : List UInt8 := dkwJ6_indexOf_0 ++ dktJ6_indexOf_1
theorem dksJ6_indexOf_0 : cJ6_indexOf.data.toList.drop 0 = dktJ6_indexOf_0 := by decide +kernel
theorem dksJ6_indexOf_1 : cJ6_indexOf.data.toList.drop 23 = dktJ6_indexOf_1 := dk_seg dksJ6_indexOf_0 23 rfl rfl
theorem dJ6_indexOf_0 : decode cJ6_indexOf 0 = .ok (.iload_n 2, 1) := dk_28 (dk_at dksJ6_indexOf_0 0 rfl rfl)
theorem dJ6_indexOf_1 : decode cJ6_indexOf 1 = .ok (.iconst 0, 1) := dk_3 (dk_at dksJ6_indexOf_0 1 rfl rfl)
theorem dJ6_indexOf_2 : decode cJ6_indexOf 2 = .ok (.invokestatic 224, 3) := dk_184 0 224 (dk_at dksJ6_indexOf_0 2 rfl rfl)
theorem dJ6_indexOf_5 : decode cJ6_indexOf 5 = .ok (.istore_n 2, 1) := dk_61 (dk_at dksJ6_indexOf_0 5 rfl rfl)
theorem dJ6_indexOf_6 : decode cJ6_indexOf 6 = .ok (.iload_n 3, 1) := dk_29 (dk_at dksJ6_indexOf_0 6 rfl rfl)
theorem dJ6_indexOf_7 : decode cJ6_indexOf 7 = .ok (.aload_n 0, 1) := dk_42 (dk_at dksJ6_indexOf_0 7 rfl rfl)
theorem dJ6_indexOf_8 : decode cJ6_indexOf 8 = .ok (.arraylength, 1) := dk_190 (dk_at dksJ6_indexOf_0 8 rfl rfl)
theorem dJ6_indexOf_9 : decode cJ6_indexOf 9 = .ok (.iconst 1, 1) := dk_4 (dk_at dksJ6_indexOf_0 9 rfl rfl)
theorem dJ6_indexOf_10 : decode cJ6_indexOf 10 = .ok (.ishr, 1) := dk_122 (dk_at dksJ6_indexOf_0 10 rfl rfl)
theorem dJ6_indexOf_11 : decode cJ6_indexOf 11 = .ok (.invokestatic 183, 3) := dk_184 0 183 (dk_at dksJ6_indexOf_0 11 rfl rfl)
theorem dJ6_indexOf_14 : decode cJ6_indexOf 14 = .ok (.istore_n 3, 1) := dk_62 (dk_at dksJ6_indexOf_0 14 rfl rfl)
theorem dJ6_indexOf_15 : decode cJ6_indexOf 15 = .ok (.iload_n 2, 1) := dk_28 (dk_at dksJ6_indexOf_0 15 rfl rfl)
theorem dJ6_indexOf_16 : decode cJ6_indexOf 16 = .ok (.iload_n 3, 1) := dk_29 (dk_at dksJ6_indexOf_0 16 rfl rfl)
theorem dJ6_indexOf_17 : decode cJ6_indexOf 17 = .ok (.if_icmp .lt 5, 3) := dk_161 0 5 (dk_at dksJ6_indexOf_0 17 rfl rfl)
theorem dJ6_indexOf_20 : decode cJ6_indexOf 20 = .ok (.iconst (-1), 1) := dk_2 (dk_at dksJ6_indexOf_0 20 rfl rfl)
theorem dJ6_indexOf_21 : decode cJ6_indexOf 21 = .ok (.ireturn, 1) := dk_172 (dk_at dksJ6_indexOf_0 21 rfl rfl)
theorem dJ6_indexOf_22 : decode cJ6_indexOf 22 = .ok (.iload_n 1, 1) := dk_27 (dk_at dksJ6_indexOf_0 22 rfl rfl)
theorem dJ6_indexOf_23 : decode cJ6_indexOf 23 = .ok (.ldc 227, 2) := dk_18 227 (dk_at dksJ6_indexOf_1 0 rfl rfl)
theorem dJ6_indexOf_25 : decode cJ6_indexOf 25 = .ok (.if_icmp .ge 11, 3) := dk_162 0 11 (dk_at dksJ6_indexOf_1 2 rfl rfl)
theorem dJ6_indexOf_28 : decode cJ6_indexOf 28 = .ok (.aload_n 0, 1) := dk_42 (dk_at dksJ6_indexOf_1 5 rfl rfl)
theorem dJ6_indexOf_29 : decode cJ6_indexOf 29 = .ok (.iload_n 1, 1) := dk_27 (dk_at dksJ6_indexOf_1 6 rfl rfl)
theorem dJ6_indexOf_30 : decode cJ6_indexOf 30 = .ok (.iload_n 2, 1) := dk_28 (dk_at dksJ6_indexOf_1 7 rfl rfl)
theorem dJ6_indexOf_31 : decode cJ6_indexOf 31 = .ok (.iload_n 3, 1) := dk_29 (dk_at dksJ6_indexOf_1 8 rfl rfl)
theorem dJ6_indexOf_32 : decode cJ6_indexOf 32 = .ok (.invokestatic 228, 3) := dk_184 0 228 (dk_at dksJ6_indexOf_1 9 rfl rfl)
theorem dJ6_indexOf_35 : decode cJ6_indexOf 35 = .ok (.ireturn, 1) := dk_172 (dk_at dksJ6_indexOf_1 12 rfl rfl)
theorem dJ6_indexOf_36 : decode cJ6_indexOf 36 = .ok (.aload_n 0, 1) := dk_42 (dk_at dksJ6_indexOf_1 13 rfl rfl)
theorem dJ6_indexOf_37 : decode cJ6_indexOf 37 = .ok (.iload_n 1, 1) := dk_27 (dk_at dksJ6_indexOf_1 14 rfl rfl)
theorem dJ6_indexOf_38 : decode cJ6_indexOf 38 = .ok (.iload_n 2, 1) := dk_28 (dk_at dksJ6_indexOf_1 15 rfl rfl)
theorem dJ6_indexOf_39 : decode cJ6_indexOf 39 = .ok (.iload_n 3, 1) := dk_29 (dk_at dksJ6_indexOf_1 16 rfl rfl)
theorem dJ6_indexOf_40 : decode cJ6_indexOf 40 = .ok (.invokestatic 232, 3) := dk_184 0 232 (dk_at dksJ6_indexOf_1 17 rfl rfl)
theorem dJ6_indexOf_43 : decode cJ6_indexOf 43 = .ok (.ireturn, 1) := dk_172 (dk_at dksJ6_indexOf_1 20 rfl rfl)
abbrev cJ6_indexOfChar : ByteArray := prog_29_method_47_code
def yJ6_indexOfChar : MethodName := ⟨RJ6, "indexOfChar", "([BIII)I"⟩
def dkwJ6_indexOfChar_0 : List UInt8 := [28, 29, 42, 184, 0, 96, 42, 27, 28, 29, 184, 0, 244, 172]
abbrev dktJ6_indexOfChar_0 : List UInt8 := dkwJ6_indexOfChar_0 ++ []
theorem dksJ6_indexOfChar_0 : cJ6_indexOfChar.data.toList.drop 0 = dktJ6_indexOfChar_0 := by decide +kernel
theorem dJ6_indexOfChar_0 : decode cJ6_indexOfChar 0 = .ok (.iload_n 2, 1) := dk_28 (dk_at dksJ6_indexOfChar_0 0 rfl rfl)
theorem dJ6_indexOfChar_1 : decode cJ6_indexOfChar 1 = .ok (.iload_n 3, 1) := dk_29 (dk_at dksJ6_indexOfChar_0 1 rfl rfl)
theorem dJ6_indexOfChar_2 : decode cJ6_indexOfChar 2 = .ok (.aload_n 0, 1) := dk_42 (dk_at dksJ6_indexOfChar_0 2 rfl rfl)
theorem dJ6_indexOfChar_3 : decode cJ6_indexOfChar 3 = .ok (.invokestatic 96, 3) := dk_184 0 96 (dk_at dksJ6_indexOfChar_0 3 rfl rfl)
theorem dJ6_indexOfChar_6 : decode cJ6_indexOfChar 6 = .ok (.aload_n 0, 1) := dk_42 (dk_at dksJ6_indexOfChar_0 6 rfl rfl)
theorem dJ6_indexOfChar_7 : decode cJ6_indexOfChar 7 = .ok (.iload_n 1, 1) := dk_27 (dk_at dksJ6_indexOfChar_0 7 rfl rfl)
theorem dJ6_indexOfChar_8 : decode cJ6_indexOfChar 8 = .ok (.iload_n 2, 1) := dk_28 (dk_at dksJ6_indexOfChar_0 8 rfl rfl)
theorem dJ6_indexOfChar_9 : decode cJ6_indexOfChar 9 = .ok (.iload_n 3, 1) := dk_29 (dk_at dksJ6_indexOfChar_0 9 rfl rfl)
theorem dJ6_indexOfChar_10 : decode cJ6_indexOfChar 10 = .ok (.invokestatic 244, 3) := dk_184 0 244 (dk_at dksJ6_indexOfChar_0 10 rfl rfl)
theorem dJ6_indexOfChar_13 : decode cJ6_indexOfChar 13 = .ok (.ireturn, 1) := dk_172 (dk_at dksJ6_indexOfChar_0 13 rfl rfl)
abbrev cJ6_checkBoundsBeginEnd : ByteArray := prog_29_method_93_code
def yJ6_checkBoundsBeginEnd : MethodName := ⟨RJ6, "checkBoundsBeginEnd", "(II[B)V"⟩
def dkwJ6_checkBoundsBeginEnd_0 : List UInt8 := [26, 27, 44, 184, 0, 48, 184, 0, 241, 177]
abbrev dktJ6_checkBoundsBeginEnd_0 : List UInt8 := dkwJ6_checkBoundsBeginEnd_0 ++ []
theorem dksJ6_checkBoundsBeginEnd_0 : cJ6_checkBoundsBeginEnd.data.toList.drop 0 = dktJ6_checkBoundsBeginEnd_0 := by decide +kernel
theorem dJ6_checkBoundsBeginEnd_0 : decode cJ6_checkBoundsBeginEnd 0 = .ok (.iload_n 0, 1) := dk_26 (dk_at dksJ6_checkBoundsBeginEnd_0 0 rfl rfl)
theorem dJ6_checkBoundsBeginEnd_1 : decode cJ6_checkBoundsBeginEnd 1 = .ok (.iload_n 1, 1) := dk_27 (dk_at dksJ6_checkBoundsBeginEnd_0 1 rfl rfl)
theorem dJ6_checkBoundsBeginEnd_2 : decode cJ6_checkBoundsBeginEnd 2 = .ok (.aload_n 2, 1) := dk_44 (dk_at dksJ6_checkBoundsBeginEnd_0 2 rfl rfl)
theorem dJ6_checkBoundsBeginEnd_3 : decode cJ6_checkBoundsBeginEnd 3 = .ok (.invokestatic 48, 3) := dk_184 0 48 (dk_at dksJ6_checkBoundsBeginEnd_0 3 rfl rfl)
theorem dJ6_checkBoundsBeginEnd_6 : decode cJ6_checkBoundsBeginEnd 6 = .ok (.invokestatic 241, 3) := dk_184 0 241 (dk_at dksJ6_checkBoundsBeginEnd_0 6 rfl rfl)
theorem dJ6_checkBoundsBeginEnd_9 : decode cJ6_checkBoundsBeginEnd 9 = .ok (.return_, 1) := dk_177 (dk_at dksJ6_checkBoundsBeginEnd_0 9 rfl rfl)
abbrev cJ6_indexOfCharUnsafe : ByteArray := prog_29_method_48_code
def yJ6_indexOfCharUnsafe : MethodName := ⟨RJ6, "indexOfCharUnsafe", "([BIII)I"⟩
def dkwJ6_indexOfCharUnsafe_1 : List UInt8 := [132, 4, 1, 167, 255, 234, 2, 172]
abbrev dktJ6_indexOfCharUnsafe_1 : List UInt8 := dkwJ6_indexOfCharUnsafe_1 ++ []
def dkwJ6_indexOfCharUnsafe_0 : List UInt8 := [28, 54, 4, 21, 4, 29, 162, 0, 22, 42, 21, 4, 184, 0, 71, 27, 160, 0, 6, 21, 4, 172]
abbrev dktJ6_indexOfCharUnsafe_0 : List UInt8 := dkwJ6_indexOfCharUnsafe_0 ++ dktJ6_indexOfCharUnsafe_1
theorem dksJ6_indexOfCharUnsafe_0 : cJ6_indexOfCharUnsafe.data.toList.drop 0 = dktJ6_indexOfCharUnsafe_0 := by decide +kernel
theorem dksJ6_indexOfCharUnsafe_1 : cJ6_indexOfCharUnsafe.data.toList.drop 22 = dktJ6_indexOfCharUnsafe_1 := dk_seg dksJ6_indexOfCharUnsafe_0 22 rfl rfl
theorem dJ6_indexOfCharUnsafe_0 : decode cJ6_indexOfCharUnsafe 0 = .ok (.iload_n 2, 1) := dk_28 (dk_at dksJ6_indexOfCharUnsafe_0 0 rfl rfl)
theorem dJ6_indexOfCharUnsafe_1 : decode cJ6_indexOfCharUnsafe 1 = .ok (.istore 4, 2) := dk_54 4 (dk_at dksJ6_indexOfCharUnsafe_0 1 rfl rfl)
theorem dJ6_indexOfCharUnsafe_3 : decode cJ6_indexOfCharUnsafe 3 = .ok (.iload 4, 2) := dk_21 4 (dk_at dksJ6_indexOfCharUnsafe_0 3 rfl rfl)
theorem dJ6_indexOfCharUnsafe_5 : decode cJ6_indexOfCharUnsafe 5 = .ok (.iload_n 3, 1) := dk_29 (dk_at dksJ6_indexOfCharUnsafe_0 5 rfl rfl)
theorem dJ6_indexOfCharUnsafe_6 : decode cJ6_indexOfCharUnsafe 6 = .ok (.if_icmp .ge 22, 3) := dk_162 0 22 (dk_at dksJ6_indexOfCharUnsafe_0 6 rfl rfl)
theorem dJ6_indexOfCharUnsafe_9 : decode cJ6_indexOfCharUnsafe 9 = .ok (.aload_n 0, 1) := dk_42 (dk_at dksJ6_indexOfCharUnsafe_0 9 rfl rfl)
theorem dJ6_indexOfCharUnsafe_10 : decode cJ6_indexOfCharUnsafe 10 = .ok (.iload 4, 2) := dk_21 4 (dk_at dksJ6_indexOfCharUnsafe_0 10 rfl rfl)
theorem dJ6_indexOfCharUnsafe_12 : decode cJ6_indexOfCharUnsafe 12 = .ok (.invokestatic 71, 3) := dk_184 0 71 (dk_at dksJ6_indexOfCharUnsafe_0 12 rfl rfl)
theorem dJ6_indexOfCharUnsafe_15 : decode cJ6_indexOfCharUnsafe 15 = .ok (.iload_n 1, 1) := dk_27 (dk_at dksJ6_indexOfCharUnsafe_0 15 rfl rfl)
theorem dJ6_indexOfCharUnsafe_16 : decode cJ6_indexOfCharUnsafe 16 = .ok (.if_icmp .ne 6, 3) := dk_160 0 6 (dk_at dksJ6_indexOfCharUnsafe_0 16 rfl rfl)
theorem dJ6_indexOfCharUnsafe_19 : decode cJ6_indexOfCharUnsafe 19 = .ok (.iload 4, 2) := dk_21 4 (dk_at dksJ6_indexOfCharUnsafe_0 19 rfl rfl)
theorem dJ6_indexOfCharUnsafe_21 : decode cJ6_indexOfCharUnsafe 21 = .ok (.ireturn, 1) := dk_172 (dk_at dksJ6_indexOfCharUnsafe_0 21 rfl rfl)
theorem dJ6_indexOfCharUnsafe_22 : decode cJ6_indexOfCharUnsafe 22 = .ok (.iinc 4 1, 3) := dk_132 4 1 (dk_at dksJ6_indexOfCharUnsafe_1 0 rfl rfl)
theorem dJ6_indexOfCharUnsafe_25 : decode cJ6_indexOfCharUnsafe 25 = .ok (.goto (-22), 3) := dk_167 255 234 (dk_at dksJ6_indexOfCharUnsafe_1 3 rfl rfl)
theorem dJ6_indexOfCharUnsafe_28 : decode cJ6_indexOfCharUnsafe 28 = .ok (.iconst (-1), 1) := dk_2 (dk_at dksJ6_indexOfCharUnsafe_1 6 rfl rfl)
theorem dJ6_indexOfCharUnsafe_29 : decode cJ6_indexOfCharUnsafe 29 = .ok (.ireturn, 1) := dk_172 (dk_at dksJ6_indexOfCharUnsafe_1 7 rfl rfl)
abbrev cJ6_indexOfSupplementary : ByteArray := prog_29_method_49_code
def yJ6_indexOfSupplementary : MethodName := ⟨RJ6, "indexOfSupplementary", "([BIII)I"⟩
def dkwJ6_indexOfSupplementary_3 : List UInt8 := [167, 255, 218, 2, 172]
abbrev dktJ6_indexOfSupplementary_3 : List UInt8 := dkwJ6_indexOfSupplementary_3 ++ []
def dkwJ6_indexOfSupplementary_2 : List UInt8 := [160, 0, 19, 42, 21, 6, 4, 96, 184, 0, 71, 21, 5, 160, 0, 6, 21, 6, 172, 132, 6, 1]
abbrev dktJ6_indexOfSupplementary_2 : List UInt8 := dkwJ6_indexOfSupplementary_2 ++ dktJ6_indexOfSupplementary_3
def dkwJ6_indexOfSupplementary_1 : List UInt8 := [184, 0, 96, 28, 54, 6, 21, 6, 29, 4, 100, 162, 0, 36, 42, 21, 6, 184, 0, 71, 21, 4]
abbrev dktJ6_indexOfSupplementary_1 : List UInt8 := dkwJ6_indexOfSupplementary_1 ++ dktJ6_indexOfSupplementary_2
def dkwJ6_indexOfSupplementary_0 : List UInt8 := [27, 184, 0, 164, 153, 0, 65, 27, 184, 0, 157, 54, 4, 27, 184, 0, 161, 54, 5, 28, 29, 42]
abbrev dktJ6_indexOfSupplementary_0 : List UInt8 := dkwJ6_indexOfSupplementary_0 ++ dktJ6_indexOfSupplementary_1
theorem dksJ6_indexOfSupplementary_0 : cJ6_indexOfSupplementary.data.toList.drop 0 = dktJ6_indexOfSupplementary_0 := by decide +kernel
theorem dksJ6_indexOfSupplementary_1 : cJ6_indexOfSupplementary.data.toList.drop 22 = dktJ6_indexOfSupplementary_1 := dk_seg dksJ6_indexOfSupplementary_0 22 rfl rfl
theorem dksJ6_indexOfSupplementary_2 : cJ6_indexOfSupplementary.data.toList.drop 44 = dktJ6_indexOfSupplementary_2 := dk_seg dksJ6_indexOfSupplementary_1 22 rfl rfl
theorem dksJ6_indexOfSupplementary_3 : cJ6_indexOfSupplementary.data.toList.drop 66 = dktJ6_indexOfSupplementary_3 := dk_seg dksJ6_indexOfSupplementary_2 22 rfl rfl
theorem dJ6_indexOfSupplementary_0 : decode cJ6_indexOfSupplementary 0 = .ok (.iload_n 1, 1) := dk_27 (dk_at dksJ6_indexOfSupplementary_0 0 rfl rfl)
theorem dJ6_indexOfSupplementary_1 : decode cJ6_indexOfSupplementary 1 = .ok (.invokestatic 164, 3) := dk_184 0 164 (dk_at dksJ6_indexOfSupplementary_0 1 rfl rfl)
theorem dJ6_indexOfSupplementary_4 : decode cJ6_indexOfSupplementary 4 = .ok (.ifCond .eq 65, 3) := dk_153 0 65 (dk_at dksJ6_indexOfSupplementary_0 4 rfl rfl)
theorem dJ6_indexOfSupplementary_7 : decode cJ6_indexOfSupplementary 7 = .ok (.iload_n 1, 1) := dk_27 (dk_at dksJ6_indexOfSupplementary_0 7 rfl rfl)
theorem dJ6_indexOfSupplementary_8 : decode cJ6_indexOfSupplementary 8 = .ok (.invokestatic 157, 3) := dk_184 0 157 (dk_at dksJ6_indexOfSupplementary_0 8 rfl rfl)
theorem dJ6_indexOfSupplementary_11 : decode cJ6_indexOfSupplementary 11 = .ok (.istore 4, 2) := dk_54 4 (dk_at dksJ6_indexOfSupplementary_0 11 rfl rfl)
theorem dJ6_indexOfSupplementary_13 : decode cJ6_indexOfSupplementary 13 = .ok (.iload_n 1, 1) := dk_27 (dk_at dksJ6_indexOfSupplementary_0 13 rfl rfl)
theorem dJ6_indexOfSupplementary_14 : decode cJ6_indexOfSupplementary 14 = .ok (.invokestatic 161, 3) := dk_184 0 161 (dk_at dksJ6_indexOfSupplementary_0 14 rfl rfl)
theorem dJ6_indexOfSupplementary_17 : decode cJ6_indexOfSupplementary 17 = .ok (.istore 5, 2) := dk_54 5 (dk_at dksJ6_indexOfSupplementary_0 17 rfl rfl)
theorem dJ6_indexOfSupplementary_19 : decode cJ6_indexOfSupplementary 19 = .ok (.iload_n 2, 1) := dk_28 (dk_at dksJ6_indexOfSupplementary_0 19 rfl rfl)
theorem dJ6_indexOfSupplementary_20 : decode cJ6_indexOfSupplementary 20 = .ok (.iload_n 3, 1) := dk_29 (dk_at dksJ6_indexOfSupplementary_0 20 rfl rfl)
theorem dJ6_indexOfSupplementary_21 : decode cJ6_indexOfSupplementary 21 = .ok (.aload_n 0, 1) := dk_42 (dk_at dksJ6_indexOfSupplementary_0 21 rfl rfl)
theorem dJ6_indexOfSupplementary_22 : decode cJ6_indexOfSupplementary 22 = .ok (.invokestatic 96, 3) := dk_184 0 96 (dk_at dksJ6_indexOfSupplementary_1 0 rfl rfl)
theorem dJ6_indexOfSupplementary_25 : decode cJ6_indexOfSupplementary 25 = .ok (.iload_n 2, 1) := dk_28 (dk_at dksJ6_indexOfSupplementary_1 3 rfl rfl)
theorem dJ6_indexOfSupplementary_26 : decode cJ6_indexOfSupplementary 26 = .ok (.istore 6, 2) := dk_54 6 (dk_at dksJ6_indexOfSupplementary_1 4 rfl rfl)
theorem dJ6_indexOfSupplementary_28 : decode cJ6_indexOfSupplementary 28 = .ok (.iload 6, 2) := dk_21 6 (dk_at dksJ6_indexOfSupplementary_1 6 rfl rfl)
theorem dJ6_indexOfSupplementary_30 : decode cJ6_indexOfSupplementary 30 = .ok (.iload_n 3, 1) := dk_29 (dk_at dksJ6_indexOfSupplementary_1 8 rfl rfl)
theorem dJ6_indexOfSupplementary_31 : decode cJ6_indexOfSupplementary 31 = .ok (.iconst 1, 1) := dk_4 (dk_at dksJ6_indexOfSupplementary_1 9 rfl rfl)
theorem dJ6_indexOfSupplementary_32 : decode cJ6_indexOfSupplementary 32 = .ok (.isub, 1) := dk_100 (dk_at dksJ6_indexOfSupplementary_1 10 rfl rfl)
theorem dJ6_indexOfSupplementary_33 : decode cJ6_indexOfSupplementary 33 = .ok (.if_icmp .ge 36, 3) := dk_162 0 36 (dk_at dksJ6_indexOfSupplementary_1 11 rfl rfl)
theorem dJ6_indexOfSupplementary_36 : decode cJ6_indexOfSupplementary 36 = .ok (.aload_n 0, 1) := dk_42 (dk_at dksJ6_indexOfSupplementary_1 14 rfl rfl)
theorem dJ6_indexOfSupplementary_37 : decode cJ6_indexOfSupplementary 37 = .ok (.iload 6, 2) := dk_21 6 (dk_at dksJ6_indexOfSupplementary_1 15 rfl rfl)
theorem dJ6_indexOfSupplementary_39 : decode cJ6_indexOfSupplementary 39 = .ok (.invokestatic 71, 3) := dk_184 0 71 (dk_at dksJ6_indexOfSupplementary_1 17 rfl rfl)
theorem dJ6_indexOfSupplementary_42 : decode cJ6_indexOfSupplementary 42 = .ok (.iload 4, 2) := dk_21 4 (dk_at dksJ6_indexOfSupplementary_1 20 rfl rfl)
theorem dJ6_indexOfSupplementary_44 : decode cJ6_indexOfSupplementary 44 = .ok (.if_icmp .ne 19, 3) := dk_160 0 19 (dk_at dksJ6_indexOfSupplementary_2 0 rfl rfl)
theorem dJ6_indexOfSupplementary_47 : decode cJ6_indexOfSupplementary 47 = .ok (.aload_n 0, 1) := dk_42 (dk_at dksJ6_indexOfSupplementary_2 3 rfl rfl)
theorem dJ6_indexOfSupplementary_48 : decode cJ6_indexOfSupplementary 48 = .ok (.iload 6, 2) := dk_21 6 (dk_at dksJ6_indexOfSupplementary_2 4 rfl rfl)
theorem dJ6_indexOfSupplementary_50 : decode cJ6_indexOfSupplementary 50 = .ok (.iconst 1, 1) := dk_4 (dk_at dksJ6_indexOfSupplementary_2 6 rfl rfl)
theorem dJ6_indexOfSupplementary_51 : decode cJ6_indexOfSupplementary 51 = .ok (.iadd, 1) := dk_96 (dk_at dksJ6_indexOfSupplementary_2 7 rfl rfl)
theorem dJ6_indexOfSupplementary_52 : decode cJ6_indexOfSupplementary 52 = .ok (.invokestatic 71, 3) := dk_184 0 71 (dk_at dksJ6_indexOfSupplementary_2 8 rfl rfl)
theorem dJ6_indexOfSupplementary_55 : decode cJ6_indexOfSupplementary 55 = .ok (.iload 5, 2) := dk_21 5 (dk_at dksJ6_indexOfSupplementary_2 11 rfl rfl)
theorem dJ6_indexOfSupplementary_57 : decode cJ6_indexOfSupplementary 57 = .ok (.if_icmp .ne 6, 3) := dk_160 0 6 (dk_at dksJ6_indexOfSupplementary_2 13 rfl rfl)
theorem dJ6_indexOfSupplementary_60 : decode cJ6_indexOfSupplementary 60 = .ok (.iload 6, 2) := dk_21 6 (dk_at dksJ6_indexOfSupplementary_2 16 rfl rfl)
theorem dJ6_indexOfSupplementary_62 : decode cJ6_indexOfSupplementary 62 = .ok (.ireturn, 1) := dk_172 (dk_at dksJ6_indexOfSupplementary_2 18 rfl rfl)
theorem dJ6_indexOfSupplementary_63 : decode cJ6_indexOfSupplementary 63 = .ok (.iinc 6 1, 3) := dk_132 6 1 (dk_at dksJ6_indexOfSupplementary_2 19 rfl rfl)
theorem dJ6_indexOfSupplementary_66 : decode cJ6_indexOfSupplementary 66 = .ok (.goto (-38), 3) := dk_167 255 218 (dk_at dksJ6_indexOfSupplementary_3 0 rfl rfl)
theorem dJ6_indexOfSupplementary_69 : decode cJ6_indexOfSupplementary 69 = .ok (.iconst (-1), 1) := dk_2 (dk_at dksJ6_indexOfSupplementary_3 3 rfl rfl)
theorem dJ6_indexOfSupplementary_70 : decode cJ6_indexOfSupplementary 70 = .ok (.ireturn, 1) := dk_172 (dk_at dksJ6_indexOfSupplementary_3 4 rfl rfl)
theorem q79 : (Jvm.Cond.initialized "java/lang/StringUTF16") ∈ lw_all := lw_g (lw_at lw_m1 10 rfl) rfl
theorem q446 : (Jvm.Cond.static ({ cls := "java/lang/StringUTF16", name := "charAt", desc := "([BI)C" } : Jvm.MethodName)) ∈ lw_all := lw_g (lw_at lw_m2 137 rfl) rfl
theorem q447 : (Jvm.Cond.code ({ cls := "java/lang/StringUTF16", name := "charAt", desc := "([BI)C" } : Jvm.MethodName) prog_29_method_83_code (2 : Nat) (Option.some Jvm.ClassFile.FieldType.char)) ∈ lw_all := lw_g (lw_at lw_m2 138 rfl) rfl
theorem q448 : (Jvm.Cond.methodLink "java/lang/StringUTF16" (67 : Nat) ({ cls := "java/lang/StringUTF16", name := "checkIndex", desc := "(I[B)V" } : Jvm.MethodName)) ∈ lw_all := lw_g (lw_at lw_m2 139 rfl) rfl
theorem q449 : (Jvm.Cond.static ({ cls := "java/lang/StringUTF16", name := "checkIndex", desc := "(I[B)V" } : Jvm.MethodName)) ∈ lw_all := lw_g (lw_at lw_m2 140 rfl) rfl
theorem q450 : (Jvm.Cond.code ({ cls := "java/lang/StringUTF16", name := "checkIndex", desc := "(I[B)V" } : Jvm.MethodName) prog_29_method_91_code (2 : Nat) (Option.none : Option Jvm.ClassFile.FieldType)) ∈ lw_all := lw_g (lw_at lw_m2 141 rfl) rfl
theorem q451 : (Jvm.Cond.methodLink "java/lang/StringUTF16" (48 : Nat) ({ cls := "java/lang/StringUTF16", name := "length", desc := "([B)I" } : Jvm.MethodName)) ∈ lw_all := lw_g (lw_at lw_m2 142 rfl) rfl
theorem q452 : (Jvm.Cond.static ({ cls := "java/lang/StringUTF16", name := "length", desc := "([B)I" } : Jvm.MethodName)) ∈ lw_all := lw_g (lw_at lw_m2 143 rfl) rfl
theorem q453 : (Jvm.Cond.code ({ cls := "java/lang/StringUTF16", name := "length", desc := "([B)I" } : Jvm.MethodName) prog_29_method_6_code (1 : Nat) (Option.some Jvm.ClassFile.FieldType.int)) ∈ lw_all := lw_g (lw_at lw_m2 144 rfl) rfl
theorem q454 : (Jvm.Cond.methodLink "java/lang/StringUTF16" (414 : Nat) ({ cls := "java/lang/String", name := "checkIndex", desc := "(II)V" } : Jvm.MethodName)) ∈ lw_all := lw_g (lw_at lw_m2 145 rfl) rfl
theorem q455 : (Jvm.Cond.methodLink "java/lang/StringUTF16" (71 : Nat) ({ cls := "java/lang/StringUTF16", name := "getChar", desc := "([BI)C" } : Jvm.MethodName)) ∈ lw_all := lw_g (lw_at lw_m2 146 rfl) rfl
theorem q456 : (Jvm.Cond.static ({ cls := "java/lang/StringUTF16", name := "getChar", desc := "([BI)C" } : Jvm.MethodName)) ∈ lw_all := lw_g (lw_at lw_m2 147 rfl) rfl
theorem q457 : (Jvm.Cond.code ({ cls := "java/lang/StringUTF16", name := "getChar", desc := "([BI)C" } : Jvm.MethodName) prog_29_method_5_code (2 : Nat) (Option.some Jvm.ClassFile.FieldType.char)) ∈ lw_all := lw_g (lw_at lw_m2 148 rfl) rfl
theorem q458 : (Jvm.Cond.fieldLink "java/lang/StringUTF16" (44 : Nat) "java/lang/StringUTF16" "$assertionsDisabled" "Z") ∈ lw_all := lw_g (lw_at lw_m2 149 rfl) rfl
theorem q459 : (Jvm.Cond.laysStatic "java/lang/StringUTF16" "$assertionsDisabled" "Z") ∈ lw_tbl := lw_at lw_m2 150 rfl
theorem q460 : (Jvm.Cond.fieldLink "java/lang/StringUTF16" (59 : Nat) "java/lang/StringUTF16" "HI_BYTE_SHIFT" "I") ∈ lw_all := lw_g (lw_at lw_m2 151 rfl) rfl
theorem q461 : (Jvm.Cond.laysStatic "java/lang/StringUTF16" "HI_BYTE_SHIFT" "I") ∈ lw_tbl := lw_at lw_m2 152 rfl
theorem q462 : (Jvm.Cond.fieldLink "java/lang/StringUTF16" (63 : Nat) "java/lang/StringUTF16" "LO_BYTE_SHIFT" "I") ∈ lw_all := lw_g (lw_at lw_m2 153 rfl) rfl
theorem q463 : (Jvm.Cond.laysStatic "java/lang/StringUTF16" "LO_BYTE_SHIFT" "I") ∈ lw_tbl := lw_at lw_m2 154 rfl
theorem q495 : (Jvm.Cond.static ({ cls := "java/lang/StringUTF16", name := "indexOf", desc := "([BIII)I" } : Jvm.MethodName)) ∈ lw_all := lw_g (lw_at lw_m2 186 rfl) rfl
theorem q496 : (Jvm.Cond.code ({ cls := "java/lang/StringUTF16", name := "indexOf", desc := "([BIII)I" } : Jvm.MethodName) prog_29_method_40_code (4 : Nat) (Option.some Jvm.ClassFile.FieldType.int)) ∈ lw_all := lw_g (lw_at lw_m2 187 rfl) rfl
theorem q497 : (Jvm.Cond.methodLink "java/lang/StringUTF16" (224 : Nat) ({ cls := "java/lang/Math", name := "max", desc := "(II)I" } : Jvm.MethodName)) ∈ lw_all := lw_g (lw_at lw_m2 188 rfl) rfl
theorem q498 : (Jvm.Cond.methodLink "java/lang/StringUTF16" (183 : Nat) ({ cls := "java/lang/Math", name := "min", desc := "(II)I" } : Jvm.MethodName)) ∈ lw_all := lw_g (lw_at lw_m2 189 rfl) rfl
theorem q499 : (Jvm.Cond.constant "java/lang/StringUTF16" (227 : Nat) (65536 : Int32)) ∈ lw_all := lw_g (lw_at lw_m2 190 rfl) rfl
theorem q500 : (Jvm.Cond.methodLink "java/lang/StringUTF16" (228 : Nat) ({ cls := "java/lang/StringUTF16", name := "indexOfChar", desc := "([BIII)I" } : Jvm.MethodName)) ∈ lw_all := lw_g (lw_at lw_m2 191 rfl) rfl
theorem q501 : (Jvm.Cond.static ({ cls := "java/lang/StringUTF16", name := "indexOfChar", desc := "([BIII)I" } : Jvm.MethodName)) ∈ lw_all := lw_g (lw_at lw_m2 192 rfl) rfl
theorem q502 : (Jvm.Cond.code ({ cls := "java/lang/StringUTF16", name := "indexOfChar", desc := "([BIII)I" } : Jvm.MethodName) prog_29_method_47_code (4 : Nat) (Option.some Jvm.ClassFile.FieldType.int)) ∈ lw_all := lw_g (lw_at lw_m2 193 rfl) rfl
theorem q503 : (Jvm.Cond.methodLink "java/lang/StringUTF16" (96 : Nat) ({ cls := "java/lang/StringUTF16", name := "checkBoundsBeginEnd", desc := "(II[B)V" } : Jvm.MethodName)) ∈ lw_all := lw_g (lw_at lw_m2 194 rfl) rfl
theorem q504 : (Jvm.Cond.static ({ cls := "java/lang/StringUTF16", name := "checkBoundsBeginEnd", desc := "(II[B)V" } : Jvm.MethodName)) ∈ lw_all := lw_g (lw_at lw_m2 195 rfl) rfl
theorem q505 : (Jvm.Cond.code ({ cls := "java/lang/StringUTF16", name := "checkBoundsBeginEnd", desc := "(II[B)V" } : Jvm.MethodName) prog_29_method_93_code (3 : Nat) (Option.none : Option Jvm.ClassFile.FieldType)) ∈ lw_all := lw_g (lw_at lw_m2 196 rfl) rfl
theorem q506 : (Jvm.Cond.methodLink "java/lang/StringUTF16" (241 : Nat) ({ cls := "java/lang/String", name := "checkBoundsBeginEnd", desc := "(III)V" } : Jvm.MethodName)) ∈ lw_all := lw_g (lw_at lw_m2 197 rfl) rfl
theorem q512 : (Jvm.Cond.methodLink "java/lang/StringUTF16" (244 : Nat) ({ cls := "java/lang/StringUTF16", name := "indexOfCharUnsafe", desc := "([BIII)I" } : Jvm.MethodName)) ∈ lw_all := lw_g (lw_at lw_m2 203 rfl) rfl
theorem q513 : (Jvm.Cond.static ({ cls := "java/lang/StringUTF16", name := "indexOfCharUnsafe", desc := "([BIII)I" } : Jvm.MethodName)) ∈ lw_all := lw_g (lw_at lw_m2 204 rfl) rfl
theorem q514 : (Jvm.Cond.code ({ cls := "java/lang/StringUTF16", name := "indexOfCharUnsafe", desc := "([BIII)I" } : Jvm.MethodName) prog_29_method_48_code (5 : Nat) (Option.some Jvm.ClassFile.FieldType.int)) ∈ lw_all := lw_g (lw_at lw_m2 205 rfl) rfl
theorem q515 : (Jvm.Cond.methodLink "java/lang/StringUTF16" (232 : Nat) ({ cls := "java/lang/StringUTF16", name := "indexOfSupplementary", desc := "([BIII)I" } : Jvm.MethodName)) ∈ lw_all := lw_g (lw_at lw_m2 206 rfl) rfl
theorem q516 : (Jvm.Cond.static ({ cls := "java/lang/StringUTF16", name := "indexOfSupplementary", desc := "([BIII)I" } : Jvm.MethodName)) ∈ lw_all := lw_g (lw_at lw_m2 207 rfl) rfl
theorem q517 : (Jvm.Cond.code ({ cls := "java/lang/StringUTF16", name := "indexOfSupplementary", desc := "([BIII)I" } : Jvm.MethodName) prog_29_method_49_code (7 : Nat) (Option.some Jvm.ClassFile.FieldType.int)) ∈ lw_all := lw_g (lw_at lw_m2 208 rfl) rfl
theorem q518 : (Jvm.Cond.methodLink "java/lang/StringUTF16" (164 : Nat) ({ cls := "java/lang/Character", name := "isValidCodePoint", desc := "(I)Z" } : Jvm.MethodName)) ∈ lw_all := lw_g (lw_at lw_m2 209 rfl) rfl
theorem q521 : (Jvm.Cond.methodLink "java/lang/StringUTF16" (157 : Nat) ({ cls := "java/lang/Character", name := "highSurrogate", desc := "(I)C" } : Jvm.MethodName)) ∈ lw_all := lw_g (lw_at lw_m2 212 rfl) rfl
theorem q525 : (Jvm.Cond.methodLink "java/lang/StringUTF16" (161 : Nat) ({ cls := "java/lang/Character", name := "lowSurrogate", desc := "(I)C" } : Jvm.MethodName)) ∈ lw_all := lw_g (lw_at lw_m2 216 rfl) rfl
/-! java/lang/Math -/
set_option maxRecDepth 100000
def RJ7 : String := "java/lang/Math"
abbrev cJ7_max : ByteArray := prog_23_method_65_code
def yJ7_max : MethodName := ⟨RJ7, "max", "(II)I"⟩
def dkwJ7_max_0 : List UInt8 := [26, 27, 161, 0, 7, 26, 167, 0, 4, 27, 172]
abbrev dktJ7_max_0 : List UInt8 := dkwJ7_max_0 ++ []
theorem dksJ7_max_0 : cJ7_max.data.toList.drop 0 = dktJ7_max_0 := by decide +kernel
theorem dJ7_max_0 : decode cJ7_max 0 = .ok (.iload_n 0, 1) := dk_26 (dk_at dksJ7_max_0 0 rfl rfl)
theorem dJ7_max_1 : decode cJ7_max 1 = .ok (.iload_n 1, 1) := dk_27 (dk_at dksJ7_max_0 1 rfl rfl)
theorem dJ7_max_2 : decode cJ7_max 2 = .ok (.if_icmp .lt 7, 3) := dk_161 0 7 (dk_at dksJ7_max_0 2 rfl rfl)
theorem dJ7_max_5 : decode cJ7_max 5 = .ok (.iload_n 0, 1) := dk_26 (dk_at dksJ7_max_0 5 rfl rfl)
theorem dJ7_max_6 : decode cJ7_max 6 = .ok (.goto 4, 3) := dk_167 0 4 (dk_at dksJ7_max_0 6 rfl rfl)
theorem dJ7_max_9 : decode cJ7_max 9 = .ok (.iload_n 1, 1) := dk_27 (dk_at dksJ7_max_0 9 rfl rfl)
theorem dJ7_max_10 : decode cJ7_max 10 = .ok (.ireturn, 1) := dk_172 (dk_at dksJ7_max_0 10 rfl rfl)
abbrev cJ7_abs : ByteArray := prog_23_method_59_code
def yJ7_abs : MethodName := ⟨RJ7, "abs", "(I)I"⟩
def dkwJ7_abs_0 : List UInt8 := [26, 156, 0, 8, 26, 116, 167, 0, 4, 26, 172]
abbrev dktJ7_abs_0 : List UInt8 := dkwJ7_abs_0 ++ []
theorem dksJ7_abs_0 : cJ7_abs.data.toList.drop 0 = dktJ7_abs_0 := by decide +kernel
theorem dJ7_abs_0 : decode cJ7_abs 0 = .ok (.iload_n 0, 1) := dk_26 (dk_at dksJ7_abs_0 0 rfl rfl)
theorem dJ7_abs_1 : decode cJ7_abs 1 = .ok (.ifCond .ge 8, 3) := dk_156 0 8 (dk_at dksJ7_abs_0 1 rfl rfl)
theorem dJ7_abs_4 : decode cJ7_abs 4 = .ok (.iload_n 0, 1) := dk_26 (dk_at dksJ7_abs_0 4 rfl rfl)
theorem dJ7_abs_5 : decode cJ7_abs 5 = .ok (.ineg, 1) := dk_116 (dk_at dksJ7_abs_0 5 rfl rfl)
theorem dJ7_abs_6 : decode cJ7_abs 6 = .ok (.goto 4, 3) := dk_167 0 4 (dk_at dksJ7_abs_0 6 rfl rfl)
theorem dJ7_abs_9 : decode cJ7_abs 9 = .ok (.iload_n 0, 1) := dk_26 (dk_at dksJ7_abs_0 9 rfl rfl)
theorem dJ7_abs_10 : decode cJ7_abs 10 = .ok (.ireturn, 1) := dk_172 (dk_at dksJ7_abs_0 10 rfl rfl)
abbrev cJ7_min : ByteArray := prog_23_method_69_code
def yJ7_min : MethodName := ⟨RJ7, "min", "(II)I"⟩
def dkwJ7_min_0 : List UInt8 := [26, 27, 163, 0, 7, 26, 167, 0, 4, 27, 172]
abbrev dktJ7_min_0 : List UInt8 := dkwJ7_min_0 ++ []
theorem dksJ7_min_0 : cJ7_min.data.toList.drop 0 = dktJ7_min_0 := by decide +kernel
theorem dJ7_min_0 : decode cJ7_min 0 = .ok (.iload_n 0, 1) := dk_26 (dk_at dksJ7_min_0 0 rfl rfl)
theorem dJ7_min_1 : decode cJ7_min 1 = .ok (.iload_n 1, 1) := dk_27 (dk_at dksJ7_min_0 1 rfl rfl)
theorem dJ7_min_2 : decode cJ7_min 2 = .ok (.if_icmp .gt 7, 3) := dk_163 0 7 (dk_at dksJ7_min_0 2 rfl rfl)
theorem dJ7_min_5 : decode cJ7_min 5 = .ok (.iload_n 0, 1) := dk_26 (dk_at dksJ7_min_0 5 rfl rfl)
theorem dJ7_min_6 : decode cJ7_min 6 = .ok (.goto 4, 3) := dk_167 0 4 (dk_at dksJ7_min_0 6 rfl rfl)
theorem dJ7_min_9 : decode cJ7_min 9 = .ok (.iload_n 1, 1) := dk_27 (dk_at dksJ7_min_0 9 rfl rfl)
theorem dJ7_min_10 : decode cJ7_min 10 = .ok (.ireturn, 1) := dk_172 (dk_at dksJ7_min_0 10 rfl rfl)
theorem q80 : (Jvm.Cond.initialized "java/lang/Math") ∈ lw_all := lw_g (lw_at lw_m1 11 rfl) rfl
theorem q265 : (Jvm.Cond.static ({ cls := "java/lang/Math", name := "max", desc := "(II)I" } : Jvm.MethodName)) ∈ lw_all := lw_g (lw_at lw_m1 196 rfl) rfl
theorem q266 : (Jvm.Cond.code ({ cls := "java/lang/Math", name := "max", desc := "(II)I" } : Jvm.MethodName) prog_23_method_65_code (2 : Nat) (Option.some Jvm.ClassFile.FieldType.int)) ∈ lw_all := lw_g (lw_at lw_m1 197 rfl) rfl
theorem q307 : (Jvm.Cond.static ({ cls := "java/lang/Math", name := "abs", desc := "(I)I" } : Jvm.MethodName)) ∈ lw_all := lw_g (lw_at lw_m1 238 rfl) rfl
theorem q308 : (Jvm.Cond.code ({ cls := "java/lang/Math", name := "abs", desc := "(I)I" } : Jvm.MethodName) prog_23_method_59_code (1 : Nat) (Option.some Jvm.ClassFile.FieldType.int)) ∈ lw_all := lw_g (lw_at lw_m1 239 rfl) rfl
theorem q340 : (Jvm.Cond.static ({ cls := "java/lang/Math", name := "min", desc := "(II)I" } : Jvm.MethodName)) ∈ lw_all := lw_g (lw_at lw_m2 31 rfl) rfl
theorem q341 : (Jvm.Cond.code ({ cls := "java/lang/Math", name := "min", desc := "(II)I" } : Jvm.MethodName) prog_23_method_69_code (2 : Nat) (Option.some Jvm.ClassFile.FieldType.int)) ∈ lw_all := lw_g (lw_at lw_m2 32 rfl) rfl
/-! java/lang/Character -/
set_option maxRecDepth 100000
def RJ8 : String := "java/lang/Character"
abbrev cJ8_isValidCodePoint : ByteArray := prog_18_method_11_code
def yJ8_isValidCodePoint : MethodName := ⟨RJ8, "isValidCodePoint", "(I)Z"⟩
def dkwJ8_isValidCodePoint_0 : List UInt8 := [26, 16, 16, 124, 60, 27, 16, 17, 162, 0, 7, 4, 167, 0, 4, 3, 172]
abbrev dktJ8_isValidCodePoint_0 : List UInt8 := dkwJ8_isValidCodePoint_0 ++ []
theorem dksJ8_isValidCodePoint_0 : cJ8_isValidCodePoint.data.toList.drop 0 = dktJ8_isValidCodePoint_0 := by decide +kernel
theorem dJ8_isValidCodePoint_0 : decode cJ8_isValidCodePoint 0 = .ok (.iload_n 0, 1) := dk_26 (dk_at dksJ8_isValidCodePoint_0 0 rfl rfl)
theorem dJ8_isValidCodePoint_1 : decode cJ8_isValidCodePoint 1 = .ok (.bipush 16, 2) := dk_16 16 (dk_at dksJ8_isValidCodePoint_0 1 rfl rfl)
theorem dJ8_isValidCodePoint_3 : decode cJ8_isValidCodePoint 3 = .ok (.iushr, 1) := dk_124 (dk_at dksJ8_isValidCodePoint_0 3 rfl rfl)
theorem dJ8_isValidCodePoint_4 : decode cJ8_isValidCodePoint 4 = .ok (.istore_n 1, 1) := dk_60 (dk_at dksJ8_isValidCodePoint_0 4 rfl rfl)
theorem dJ8_isValidCodePoint_5 : decode cJ8_isValidCodePoint 5 = .ok (.iload_n 1, 1) := dk_27 (dk_at dksJ8_isValidCodePoint_0 5 rfl rfl)
theorem dJ8_isValidCodePoint_6 : decode cJ8_isValidCodePoint 6 = .ok (.bipush 17, 2) := dk_16 17 (dk_at dksJ8_isValidCodePoint_0 6 rfl rfl)
theorem dJ8_isValidCodePoint_8 : decode cJ8_isValidCodePoint 8 = .ok (.if_icmp .ge 7, 3) := dk_162 0 7 (dk_at dksJ8_isValidCodePoint_0 8 rfl rfl)
theorem dJ8_isValidCodePoint_11 : decode cJ8_isValidCodePoint 11 = .ok (.iconst 1, 1) := dk_4 (dk_at dksJ8_isValidCodePoint_0 11 rfl rfl)
theorem dJ8_isValidCodePoint_12 : decode cJ8_isValidCodePoint 12 = .ok (.goto 4, 3) := dk_167 0 4 (dk_at dksJ8_isValidCodePoint_0 12 rfl rfl)
theorem dJ8_isValidCodePoint_15 : decode cJ8_isValidCodePoint 15 = .ok (.iconst 0, 1) := dk_3 (dk_at dksJ8_isValidCodePoint_0 15 rfl rfl)
theorem dJ8_isValidCodePoint_16 : decode cJ8_isValidCodePoint 16 = .ok (.ireturn, 1) := dk_172 (dk_at dksJ8_isValidCodePoint_0 16 rfl rfl)
abbrev cJ8_highSurrogate : ByteArray := prog_18_method_28_code
def yJ8_highSurrogate : MethodName := ⟨RJ8, "highSurrogate", "(I)C"⟩
def dkwJ8_highSurrogate_0 : List UInt8 := [26, 16, 10, 124, 18, 110, 96, 146, 172]
abbrev dktJ8_highSurrogate_0 : List UInt8 := dkwJ8_highSurrogate_0 ++ []
theorem dksJ8_highSurrogate_0 : cJ8_highSurrogate.data.toList.drop 0 = dktJ8_highSurrogate_0 := by decide +kernel
theorem dJ8_highSurrogate_0 : decode cJ8_highSurrogate 0 = .ok (.iload_n 0, 1) := dk_26 (dk_at dksJ8_highSurrogate_0 0 rfl rfl)
theorem dJ8_highSurrogate_1 : decode cJ8_highSurrogate 1 = .ok (.bipush 10, 2) := dk_16 10 (dk_at dksJ8_highSurrogate_0 1 rfl rfl)
theorem dJ8_highSurrogate_3 : decode cJ8_highSurrogate 3 = .ok (.iushr, 1) := dk_124 (dk_at dksJ8_highSurrogate_0 3 rfl rfl)
theorem dJ8_highSurrogate_4 : decode cJ8_highSurrogate 4 = .ok (.ldc 110, 2) := dk_18 110 (dk_at dksJ8_highSurrogate_0 4 rfl rfl)
theorem dJ8_highSurrogate_6 : decode cJ8_highSurrogate 6 = .ok (.iadd, 1) := dk_96 (dk_at dksJ8_highSurrogate_0 6 rfl rfl)
theorem dJ8_highSurrogate_7 : decode cJ8_highSurrogate 7 = .ok (.i2c, 1) := dk_146 (dk_at dksJ8_highSurrogate_0 7 rfl rfl)
theorem dJ8_highSurrogate_8 : decode cJ8_highSurrogate 8 = .ok (.ireturn, 1) := dk_172 (dk_at dksJ8_highSurrogate_0 8 rfl rfl)
abbrev cJ8_lowSurrogate : ByteArray := prog_18_method_29_code
def yJ8_lowSurrogate : MethodName := ⟨RJ8, "lowSurrogate", "(I)C"⟩
def dkwJ8_lowSurrogate_0 : List UInt8 := [26, 17, 3, 255, 126, 18, 76, 96, 146, 172]
abbrev dktJ8_lowSurrogate_0 : List UInt8 := dkwJ8_lowSurrogate_0 ++ []
theorem dksJ8_lowSurrogate_0 : cJ8_lowSurrogate.data.toList.drop 0 = dktJ8_lowSurrogate_0 := by decide +kernel
theorem dJ8_lowSurrogate_0 : decode cJ8_lowSurrogate 0 = .ok (.iload_n 0, 1) := dk_26 (dk_at dksJ8_lowSurrogate_0 0 rfl rfl)
theorem dJ8_lowSurrogate_1 : decode cJ8_lowSurrogate 1 = .ok (.sipush 1023, 3) := dk_17 3 255 (dk_at dksJ8_lowSurrogate_0 1 rfl rfl)
theorem dJ8_lowSurrogate_4 : decode cJ8_lowSurrogate 4 = .ok (.iand, 1) := dk_126 (dk_at dksJ8_lowSurrogate_0 4 rfl rfl)
theorem dJ8_lowSurrogate_5 : decode cJ8_lowSurrogate 5 = .ok (.ldc 76, 2) := dk_18 76 (dk_at dksJ8_lowSurrogate_0 5 rfl rfl)
theorem dJ8_lowSurrogate_7 : decode cJ8_lowSurrogate 7 = .ok (.iadd, 1) := dk_96 (dk_at dksJ8_lowSurrogate_0 7 rfl rfl)
theorem dJ8_lowSurrogate_8 : decode cJ8_lowSurrogate 8 = .ok (.i2c, 1) := dk_146 (dk_at dksJ8_lowSurrogate_0 8 rfl rfl)
theorem dJ8_lowSurrogate_9 : decode cJ8_lowSurrogate 9 = .ok (.ireturn, 1) := dk_172 (dk_at dksJ8_lowSurrogate_0 9 rfl rfl)
theorem q81 : (Jvm.Cond.initialized "java/lang/Character") ∈ lw_all := lw_g (lw_at lw_m1 12 rfl) rfl
theorem q519 : (Jvm.Cond.static ({ cls := "java/lang/Character", name := "isValidCodePoint", desc := "(I)Z" } : Jvm.MethodName)) ∈ lw_all := lw_g (lw_at lw_m2 210 rfl) rfl
theorem q520 : (Jvm.Cond.code ({ cls := "java/lang/Character", name := "isValidCodePoint", desc := "(I)Z" } : Jvm.MethodName) prog_18_method_11_code (2 : Nat) (Option.some Jvm.ClassFile.FieldType.boolean)) ∈ lw_all := lw_g (lw_at lw_m2 211 rfl) rfl
theorem q522 : (Jvm.Cond.static ({ cls := "java/lang/Character", name := "highSurrogate", desc := "(I)C" } : Jvm.MethodName)) ∈ lw_all := lw_g (lw_at lw_m2 213 rfl) rfl
theorem q523 : (Jvm.Cond.code ({ cls := "java/lang/Character", name := "highSurrogate", desc := "(I)C" } : Jvm.MethodName) prog_18_method_28_code (1 : Nat) (Option.some Jvm.ClassFile.FieldType.char)) ∈ lw_all := lw_g (lw_at lw_m2 214 rfl) rfl
theorem q524 : (Jvm.Cond.constant "java/lang/Character" (110 : Nat) (55232 : Int32)) ∈ lw_all := lw_g (lw_at lw_m2 215 rfl) rfl
theorem q526 : (Jvm.Cond.static ({ cls := "java/lang/Character", name := "lowSurrogate", desc := "(I)C" } : Jvm.MethodName)) ∈ lw_all := lw_g (lw_at lw_m2 217 rfl) rfl
theorem q527 : (Jvm.Cond.code ({ cls := "java/lang/Character", name := "lowSurrogate", desc := "(I)C" } : Jvm.MethodName) prog_18_method_29_code (1 : Nat) (Option.some Jvm.ClassFile.FieldType.char)) ∈ lw_all := lw_g (lw_at lw_m2 218 rfl) rfl
theorem q528 : (Jvm.Cond.constant "java/lang/Character" (76 : Nat) (56320 : Int32)) ∈ lw_all := lw_g (lw_at lw_m2 219 rfl) rfl
/-! java/lang/Integer -/
set_option maxRecDepth 100000
def RJ9 : String := "java/lang/Integer"
abbrev cJ9_bitCount : ByteArray := prog_22_method_49_code
def yJ9_bitCount : MethodName := ⟨RJ9, "bitCount", "(I)I"⟩
def dkwJ9_bitCount_2 : List UInt8 := [26, 16, 63, 126, 172]
abbrev dktJ9_bitCount_2 : List UInt8 := dkwJ9_bitCount_2 ++ []
def dkwJ9_bitCount_1 : List UInt8 := [26, 26, 7, 124, 96, 19, 1, 11, 126, 59, 26, 26, 16, 8, 124, 96, 59, 26, 26, 16, 16, 124, 96, 59]
abbrev dktJ9_bitCount_1 : List UInt8 := dkwJ9_bitCount_1 ++ dktJ9_bitCount_2
def dkwJ9_bitCount_0 : List UInt8 := [26, 26, 4, 124, 19, 1, 9, 126, 100, 59, 26, 19, 1, 10, 126, 26, 5, 124, 19, 1, 10, 126, 96, 59]
abbrev dktJ9_bitCount_0 : List UInt8 := dkwJ9_bitCount_0 ++ dktJ9_bitCount_1
theorem dksJ9_bitCount_0 : cJ9_bitCount.data.toList.drop 0 = dktJ9_bitCount_0 := by decide +kernel
theorem dksJ9_bitCount_1 : cJ9_bitCount.data.toList.drop 24 = dktJ9_bitCount_1 := dk_seg dksJ9_bitCount_0 24 rfl rfl
theorem dksJ9_bitCount_2 : cJ9_bitCount.data.toList.drop 48 = dktJ9_bitCount_2 := dk_seg dksJ9_bitCount_1 24 rfl rfl
theorem dJ9_bitCount_0 : decode cJ9_bitCount 0 = .ok (.iload_n 0, 1) := dk_26 (dk_at dksJ9_bitCount_0 0 rfl rfl)
theorem dJ9_bitCount_1 : decode cJ9_bitCount 1 = .ok (.iload_n 0, 1) := dk_26 (dk_at dksJ9_bitCount_0 1 rfl rfl)
theorem dJ9_bitCount_2 : decode cJ9_bitCount 2 = .ok (.iconst 1, 1) := dk_4 (dk_at dksJ9_bitCount_0 2 rfl rfl)
theorem dJ9_bitCount_3 : decode cJ9_bitCount 3 = .ok (.iushr, 1) := dk_124 (dk_at dksJ9_bitCount_0 3 rfl rfl)
theorem dJ9_bitCount_4 : decode cJ9_bitCount 4 = .ok (.ldc_w 265, 3) := dk_19 1 9 (dk_at dksJ9_bitCount_0 4 rfl rfl)
theorem dJ9_bitCount_7 : decode cJ9_bitCount 7 = .ok (.iand, 1) := dk_126 (dk_at dksJ9_bitCount_0 7 rfl rfl)
theorem dJ9_bitCount_8 : decode cJ9_bitCount 8 = .ok (.isub, 1) := dk_100 (dk_at dksJ9_bitCount_0 8 rfl rfl)
theorem dJ9_bitCount_9 : decode cJ9_bitCount 9 = .ok (.istore_n 0, 1) := dk_59 (dk_at dksJ9_bitCount_0 9 rfl rfl)
theorem dJ9_bitCount_10 : decode cJ9_bitCount 10 = .ok (.iload_n 0, 1) := dk_26 (dk_at dksJ9_bitCount_0 10 rfl rfl)
theorem dJ9_bitCount_11 : decode cJ9_bitCount 11 = .ok (.ldc_w 266, 3) := dk_19 1 10 (dk_at dksJ9_bitCount_0 11 rfl rfl)
theorem dJ9_bitCount_14 : decode cJ9_bitCount 14 = .ok (.iand, 1) := dk_126 (dk_at dksJ9_bitCount_0 14 rfl rfl)
theorem dJ9_bitCount_15 : decode cJ9_bitCount 15 = .ok (.iload_n 0, 1) := dk_26 (dk_at dksJ9_bitCount_0 15 rfl rfl)
theorem dJ9_bitCount_16 : decode cJ9_bitCount 16 = .ok (.iconst 2, 1) := dk_5 (dk_at dksJ9_bitCount_0 16 rfl rfl)
theorem dJ9_bitCount_17 : decode cJ9_bitCount 17 = .ok (.iushr, 1) := dk_124 (dk_at dksJ9_bitCount_0 17 rfl rfl)
theorem dJ9_bitCount_18 : decode cJ9_bitCount 18 = .ok (.ldc_w 266, 3) := dk_19 1 10 (dk_at dksJ9_bitCount_0 18 rfl rfl)
theorem dJ9_bitCount_21 : decode cJ9_bitCount 21 = .ok (.iand, 1) := dk_126 (dk_at dksJ9_bitCount_0 21 rfl rfl)
theorem dJ9_bitCount_22 : decode cJ9_bitCount 22 = .ok (.iadd, 1) := dk_96 (dk_at dksJ9_bitCount_0 22 rfl rfl)
theorem dJ9_bitCount_23 : decode cJ9_bitCount 23 = .ok (.istore_n 0, 1) := dk_59 (dk_at dksJ9_bitCount_0 23 rfl rfl)
theorem dJ9_bitCount_24 : decode cJ9_bitCount 24 = .ok (.iload_n 0, 1) := dk_26 (dk_at dksJ9_bitCount_1 0 rfl rfl)
theorem dJ9_bitCount_25 : decode cJ9_bitCount 25 = .ok (.iload_n 0, 1) := dk_26 (dk_at dksJ9_bitCount_1 1 rfl rfl)
theorem dJ9_bitCount_26 : decode cJ9_bitCount 26 = .ok (.iconst 4, 1) := dk_7 (dk_at dksJ9_bitCount_1 2 rfl rfl)
theorem dJ9_bitCount_27 : decode cJ9_bitCount 27 = .ok (.iushr, 1) := dk_124 (dk_at dksJ9_bitCount_1 3 rfl rfl)
theorem dJ9_bitCount_28 : decode cJ9_bitCount 28 = .ok (.iadd, 1) := dk_96 (dk_at dksJ9_bitCount_1 4 rfl rfl)
theorem dJ9_bitCount_29 : decode cJ9_bitCount 29 = .ok (.ldc_w 267, 3) := dk_19 1 11 (dk_at dksJ9_bitCount_1 5 rfl rfl)
theorem dJ9_bitCount_32 : decode cJ9_bitCount 32 = .ok (.iand, 1) := dk_126 (dk_at dksJ9_bitCount_1 8 rfl rfl)
theorem dJ9_bitCount_33 : decode cJ9_bitCount 33 = .ok (.istore_n 0, 1) := dk_59 (dk_at dksJ9_bitCount_1 9 rfl rfl)
theorem dJ9_bitCount_34 : decode cJ9_bitCount 34 = .ok (.iload_n 0, 1) := dk_26 (dk_at dksJ9_bitCount_1 10 rfl rfl)
theorem dJ9_bitCount_35 : decode cJ9_bitCount 35 = .ok (.iload_n 0, 1) := dk_26 (dk_at dksJ9_bitCount_1 11 rfl rfl)
theorem dJ9_bitCount_36 : decode cJ9_bitCount 36 = .ok (.bipush 8, 2) := dk_16 8 (dk_at dksJ9_bitCount_1 12 rfl rfl)
theorem dJ9_bitCount_38 : decode cJ9_bitCount 38 = .ok (.iushr, 1) := dk_124 (dk_at dksJ9_bitCount_1 14 rfl rfl)
theorem dJ9_bitCount_39 : decode cJ9_bitCount 39 = .ok (.iadd, 1) := dk_96 (dk_at dksJ9_bitCount_1 15 rfl rfl)
theorem dJ9_bitCount_40 : decode cJ9_bitCount 40 = .ok (.istore_n 0, 1) := dk_59 (dk_at dksJ9_bitCount_1 16 rfl rfl)
theorem dJ9_bitCount_41 : decode cJ9_bitCount 41 = .ok (.iload_n 0, 1) := dk_26 (dk_at dksJ9_bitCount_1 17 rfl rfl)
theorem dJ9_bitCount_42 : decode cJ9_bitCount 42 = .ok (.iload_n 0, 1) := dk_26 (dk_at dksJ9_bitCount_1 18 rfl rfl)
theorem dJ9_bitCount_43 : decode cJ9_bitCount 43 = .ok (.bipush 16, 2) := dk_16 16 (dk_at dksJ9_bitCount_1 19 rfl rfl)
theorem dJ9_bitCount_45 : decode cJ9_bitCount 45 = .ok (.iushr, 1) := dk_124 (dk_at dksJ9_bitCount_1 21 rfl rfl)
theorem dJ9_bitCount_46 : decode cJ9_bitCount 46 = .ok (.iadd, 1) := dk_96 (dk_at dksJ9_bitCount_1 22 rfl rfl)
theorem dJ9_bitCount_47 : decode cJ9_bitCount 47 = .ok (.istore_n 0, 1) := dk_59 (dk_at dksJ9_bitCount_1 23 rfl rfl)
theorem dJ9_bitCount_48 : decode cJ9_bitCount 48 = .ok (.iload_n 0, 1) := dk_26 (dk_at dksJ9_bitCount_2 0 rfl rfl)
theorem dJ9_bitCount_49 : decode cJ9_bitCount 49 = .ok (.bipush 63, 2) := dk_16 63 (dk_at dksJ9_bitCount_2 1 rfl rfl)
theorem dJ9_bitCount_51 : decode cJ9_bitCount 51 = .ok (.iand, 1) := dk_126 (dk_at dksJ9_bitCount_2 3 rfl rfl)
theorem dJ9_bitCount_52 : decode cJ9_bitCount 52 = .ok (.ireturn, 1) := dk_172 (dk_at dksJ9_bitCount_2 4 rfl rfl)
theorem q94 : (Jvm.Cond.initialized "java/lang/Integer") ∈ lw_all := lw_g (lw_at lw_m1 25 rfl) rfl
theorem q923 : (Jvm.Cond.static ({ cls := "java/lang/Integer", name := "bitCount", desc := "(I)I" } : Jvm.MethodName)) ∈ lw_all := lw_g (lw_at lw_m4 134 rfl) rfl
theorem q924 : (Jvm.Cond.code ({ cls := "java/lang/Integer", name := "bitCount", desc := "(I)I" } : Jvm.MethodName) prog_22_method_49_code (1 : Nat) (Option.some Jvm.ClassFile.FieldType.int)) ∈ lw_all := lw_g (lw_at lw_m4 135 rfl) rfl
theorem q925 : (Jvm.Cond.constant "java/lang/Integer" (265 : Nat) (1431655765 : Int32)) ∈ lw_all := lw_g (lw_at lw_m4 136 rfl) rfl
theorem q926 : (Jvm.Cond.constant "java/lang/Integer" (266 : Nat) (858993459 : Int32)) ∈ lw_all := lw_g (lw_at lw_m4 137 rfl) rfl
theorem q927 : (Jvm.Cond.constant "java/lang/Integer" (267 : Nat) (252645135 : Int32)) ∈ lw_all := lw_g (lw_at lw_m4 138 rfl) rfl
/-! java/lang/IndexOutOfBoundsException -/
set_option maxRecDepth 100000
def RJ10 : String := "java/lang/IndexOutOfBoundsException"
def TJ10 : u_T := fun k => match k with
  | 0 => ("java/lang/Throwable", "cause", "Ljava/lang/Throwable;", false)
  | 1 => ("java/lang/Throwable", "stackTrace", "[Ljava/lang/StackTraceElement;", false)
  | 2 => ("java/lang/Throwable", "suppressedExceptions", "Ljava/util/List;", false)
  | 3 => ("java/lang/Throwable", "detailMessage", "Ljava/lang/String;", false)
  | 4 => ("java/lang/Throwable", "backtrace", "Ljava/lang/Object;", false)
  | _ => ("java/lang/Throwable", "depth", "I", false)
def tyJ10 : Nat → FieldType := fun k => match k with
  | 0 => .object "java/lang/Throwable"
  | 1 => .array (.object "java/lang/StackTraceElement")
  | 2 => .object "java/util/List"
  | 3 => .object "java/lang/String"
  | 4 => .object "java/lang/Object"
  | _ => .int
abbrev wsJ100 : List Cond := u_ws RJ10 TJ10 6
theorem nmJ10 : ∀ a, a < 6 → ∀ b, b < 6 → a ≠ b → (TJ10 a).2.1 ≠ (TJ10 b).2.1 := by decide +kernel
theorem tyJ10_ok : ∀ k, k < 6 → parseFieldDescriptor (TJ10 k).2.2.1 = some (tyJ10 k) := by decide +kernel
abbrev cJ10_init : ByteArray := prog_21_method_1_code
def yJ10_init : MethodName := ⟨RJ10, "<init>", "()V"⟩
theorem dJ10_init_0 : decode cJ10_init 0 = .ok (.aload_n 0, 1) := by decide +kernel
theorem dJ10_init_1 : decode cJ10_init 1 = .ok (.invokespecial 1, 3) := by decide +kernel
theorem dJ10_init_4 : decode cJ10_init 4 = .ok (.return_, 1) := by decide +kernel
abbrev cJ10_init_2 : ByteArray := prog_21_method_2_code
def yJ10_init_2 : MethodName := ⟨RJ10, "<init>", "(Ljava/lang/String;)V"⟩
def dkwJ10_init_2_0 : List UInt8 := [42, 43, 183, 0, 7, 177]
abbrev dktJ10_init_2_0 : List UInt8 := dkwJ10_init_2_0 ++ []
theorem dksJ10_init_2_0 : cJ10_init_2.data.toList.drop 0 = dktJ10_init_2_0 := by decide +kernel
theorem dJ10_init_2_0 : decode cJ10_init_2 0 = .ok (.aload_n 0, 1) := dk_42 (dk_at dksJ10_init_2_0 0 rfl rfl)
theorem dJ10_init_2_1 : decode cJ10_init_2 1 = .ok (.aload_n 1, 1) := dk_43 (dk_at dksJ10_init_2_0 1 rfl rfl)
theorem dJ10_init_2_2 : decode cJ10_init_2 2 = .ok (.invokespecial 7, 3) := dk_183 0 7 (dk_at dksJ10_init_2_0 2 rfl rfl)
theorem dJ10_init_2_5 : decode cJ10_init_2 5 = .ok (.return_, 1) := dk_177 (dk_at dksJ10_init_2_0 5 rfl rfl)
theorem q96 : (Jvm.Cond.initialized "java/lang/IndexOutOfBoundsException") ∈ lw_all := lw_g (lw_at lw_m1 27 rfl) rfl
theorem q665 : (Jvm.Cond.selects "java/lang/IndexOutOfBoundsException" ({ cls := "java/lang/Throwable", name := "fillInStackTrace", desc := "()Ljava/lang/Throwable;" } : Jvm.MethodName) ({ cls := "java/lang/Throwable", name := "fillInStackTrace", desc := "()Ljava/lang/Throwable;" } : Jvm.MethodName)) ∈ lw_all := lw_g (lw_at lw_m3 116 rfl) rfl
theorem q983 : (Jvm.Cond.instantiable "java/lang/IndexOutOfBoundsException" (6 : Nat)) ∈ lw_all := lw_g (lw_at lw_m4 194 rfl) rfl
theorem q984 : (Jvm.Cond.castable "java/lang/IndexOutOfBoundsException" "java/lang/IndexOutOfBoundsException") ∈ lw_tbl := lw_at lw_m4 195 rfl
theorem q985 : (Jvm.Cond.selects "java/lang/IndexOutOfBoundsException" ({ cls := "java/lang/Throwable", name := "fillInStackTrace", desc := "(I)Ljava/lang/Throwable;" } : Jvm.MethodName) ({ cls := "java/lang/Throwable", name := "fillInStackTrace", desc := "(I)Ljava/lang/Throwable;" } : Jvm.MethodName)) ∈ lw_all := lw_g (lw_at lw_m4 196 rfl) rfl
theorem q986 : (Jvm.Cond.lays "java/lang/IndexOutOfBoundsException" "java/lang/Throwable" "cause" "Ljava/lang/Throwable;") ∈ lw_all := lw_g (lw_at lw_m4 197 rfl) rfl
theorem q987 : (Jvm.Cond.lays "java/lang/IndexOutOfBoundsException" "java/lang/Throwable" "stackTrace" "[Ljava/lang/StackTraceElement;") ∈ lw_all := lw_g (lw_at lw_m4 198 rfl) rfl
theorem q988 : (Jvm.Cond.lays "java/lang/IndexOutOfBoundsException" "java/lang/Throwable" "suppressedExceptions" "Ljava/util/List;") ∈ lw_all := lw_g (lw_at lw_m4 199 rfl) rfl
theorem q989 : (Jvm.Cond.lays "java/lang/IndexOutOfBoundsException" "java/lang/Throwable" "detailMessage" "Ljava/lang/String;") ∈ lw_all := lw_g (lw_at lw_m4 200 rfl) rfl
theorem q990 : (Jvm.Cond.lays "java/lang/IndexOutOfBoundsException" "java/lang/Throwable" "backtrace" "Ljava/lang/Object;") ∈ lw_all := lw_g (lw_at lw_m4 201 rfl) rfl
theorem q992 : (Jvm.Cond.instanceMethod ({ cls := "java/lang/IndexOutOfBoundsException", name := "<init>", desc := "()V" } : Jvm.MethodName)) ∈ lw_all := lw_g (lw_at lw_m4 203 rfl) rfl
theorem q993 : (Jvm.Cond.code ({ cls := "java/lang/IndexOutOfBoundsException", name := "<init>", desc := "()V" } : Jvm.MethodName) prog_21_method_1_code (1 : Nat) (Option.none : Option Jvm.ClassFile.FieldType)) ∈ lw_all := lw_g (lw_at lw_m4 204 rfl) rfl
theorem q994 : (Jvm.Cond.methodLink "java/lang/IndexOutOfBoundsException" (1 : Nat) ({ cls := "java/lang/RuntimeException", name := "<init>", desc := "()V" } : Jvm.MethodName)) ∈ lw_all := lw_g (lw_at lw_m4 205 rfl) rfl
theorem q1001 : (Jvm.Cond.lays "java/lang/IndexOutOfBoundsException" "java/lang/Throwable" "depth" "I") ∈ lw_all := lw_g (lw_at lw_m4 212 rfl) rfl
theorem q1002 : (Jvm.Cond.superclass "java/lang/IndexOutOfBoundsException" "java/lang/RuntimeException") ∈ lw_all := lw_g (lw_at lw_m4 213 rfl) rfl
theorem q1103 : (Jvm.Cond.instanceMethod ({ cls := "java/lang/IndexOutOfBoundsException", name := "<init>", desc := "(Ljava/lang/String;)V" } : Jvm.MethodName)) ∈ lw_all := lw_g (lw_at lw_m5 74 rfl) rfl
theorem q1104 : (Jvm.Cond.code ({ cls := "java/lang/IndexOutOfBoundsException", name := "<init>", desc := "(Ljava/lang/String;)V" } : Jvm.MethodName) prog_21_method_2_code (2 : Nat) (Option.none : Option Jvm.ClassFile.FieldType)) ∈ lw_all := lw_g (lw_at lw_m5 75 rfl) rfl
theorem q1105 : (Jvm.Cond.methodLink "java/lang/IndexOutOfBoundsException" (7 : Nat) ({ cls := "java/lang/RuntimeException", name := "<init>", desc := "(Ljava/lang/String;)V" } : Jvm.MethodName)) ∈ lw_all := lw_g (lw_at lw_m5 76 rfl) rfl
theorem q1114 : (Jvm.Cond.declares ({ cls := "java/lang/IndexOutOfBoundsException", name := "<init>", desc := "()V" } : Jvm.MethodName)) ∈ lw_tbl := lw_at lw_m5 85 rfl
theorem q1115 : (Jvm.Cond.declares ({ cls := "java/lang/IndexOutOfBoundsException", name := "<init>", desc := "(Ljava/lang/String;)V" } : Jvm.MethodName)) ∈ lw_tbl := lw_at lw_m5 86 rfl
theorem in_J10 : ∀ w ∈ wsJ100, w ∈ lw_all := lw_in wsJ100 [986, 987, 988, 989, 990, 1001] (by decide +kernel) (by decide +kernel)
/-! java/lang/NegativeArraySizeException -/
set_option maxRecDepth 100000
def RJ11 : String := "java/lang/NegativeArraySizeException"
def TJ11 : u_T := fun k => match k with
  | 0 => ("java/lang/Throwable", "backtrace", "Ljava/lang/Object;", false)
  | 1 => ("java/lang/Throwable", "detailMessage", "Ljava/lang/String;", false)
  | 2 => ("java/lang/Throwable", "cause", "Ljava/lang/Throwable;", false)
  | 3 => ("java/lang/Throwable", "stackTrace", "[Ljava/lang/StackTraceElement;", false)
  | 4 => ("java/lang/Throwable", "depth", "I", false)
  | _ => ("java/lang/Throwable", "suppressedExceptions", "Ljava/util/List;", false)
def tyJ11 : Nat → FieldType := fun k => match k with
  | 0 => .object "java/lang/Object"
  | 1 => .object "java/lang/String"
  | 2 => .object "java/lang/Throwable"
  | 3 => .array (.object "java/lang/StackTraceElement")
  | 4 => .int
  | _ => .object "java/util/List"
abbrev wsJ110 : List Cond := u_ws RJ11 TJ11 6
theorem nmJ11 : ∀ a, a < 6 → ∀ b, b < 6 → a ≠ b → (TJ11 a).2.1 ≠ (TJ11 b).2.1 := by decide +kernel
theorem tyJ11_ok : ∀ k, k < 6 → parseFieldDescriptor (TJ11 k).2.2.1 = some (tyJ11 k) := by decide +kernel
abbrev cJ11_init : ByteArray := prog_24_method_2_code
def yJ11_init : MethodName := ⟨RJ11, "<init>", "(Ljava/lang/String;)V"⟩
def dkwJ11_init_0 : List UInt8 := [42, 43, 183, 0, 7, 177]
abbrev dktJ11_init_0 : List UInt8 := dkwJ11_init_0 ++ []
theorem dksJ11_init_0 : cJ11_init.data.toList.drop 0 = dktJ11_init_0 := by decide +kernel
theorem dJ11_init_0 : decode cJ11_init 0 = .ok (.aload_n 0, 1) := dk_42 (dk_at dksJ11_init_0 0 rfl rfl)
theorem dJ11_init_1 : decode cJ11_init 1 = .ok (.aload_n 1, 1) := dk_43 (dk_at dksJ11_init_0 1 rfl rfl)
theorem dJ11_init_2 : decode cJ11_init 2 = .ok (.invokespecial 7, 3) := dk_183 0 7 (dk_at dksJ11_init_0 2 rfl rfl)
theorem dJ11_init_5 : decode cJ11_init 5 = .ok (.return_, 1) := dk_177 (dk_at dksJ11_init_0 5 rfl rfl)
theorem q97 : (Jvm.Cond.initialized "java/lang/NegativeArraySizeException") ∈ lw_all := lw_g (lw_at lw_m1 28 rfl) rfl
theorem q666 : (Jvm.Cond.selects "java/lang/NegativeArraySizeException" ({ cls := "java/lang/Throwable", name := "fillInStackTrace", desc := "()Ljava/lang/Throwable;" } : Jvm.MethodName) ({ cls := "java/lang/Throwable", name := "fillInStackTrace", desc := "()Ljava/lang/Throwable;" } : Jvm.MethodName)) ∈ lw_all := lw_g (lw_at lw_m3 117 rfl) rfl
theorem q1044 : (Jvm.Cond.instantiable "java/lang/NegativeArraySizeException" (6 : Nat)) ∈ lw_all := lw_g (lw_at lw_m5 15 rfl) rfl
theorem q1045 : (Jvm.Cond.instanceMethod ({ cls := "java/lang/NegativeArraySizeException", name := "<init>", desc := "(Ljava/lang/String;)V" } : Jvm.MethodName)) ∈ lw_all := lw_g (lw_at lw_m5 16 rfl) rfl
theorem q1046 : (Jvm.Cond.code ({ cls := "java/lang/NegativeArraySizeException", name := "<init>", desc := "(Ljava/lang/String;)V" } : Jvm.MethodName) prog_24_method_2_code (2 : Nat) (Option.none : Option Jvm.ClassFile.FieldType)) ∈ lw_all := lw_g (lw_at lw_m5 17 rfl) rfl
theorem q1047 : (Jvm.Cond.methodLink "java/lang/NegativeArraySizeException" (7 : Nat) ({ cls := "java/lang/RuntimeException", name := "<init>", desc := "(Ljava/lang/String;)V" } : Jvm.MethodName)) ∈ lw_all := lw_g (lw_at lw_m5 18 rfl) rfl
theorem q1056 : (Jvm.Cond.lays "java/lang/NegativeArraySizeException" "java/lang/Throwable" "backtrace" "Ljava/lang/Object;") ∈ lw_all := lw_g (lw_at lw_m5 27 rfl) rfl
theorem q1057 : (Jvm.Cond.lays "java/lang/NegativeArraySizeException" "java/lang/Throwable" "detailMessage" "Ljava/lang/String;") ∈ lw_all := lw_g (lw_at lw_m5 28 rfl) rfl
theorem q1058 : (Jvm.Cond.lays "java/lang/NegativeArraySizeException" "java/lang/Throwable" "cause" "Ljava/lang/Throwable;") ∈ lw_all := lw_g (lw_at lw_m5 29 rfl) rfl
theorem q1059 : (Jvm.Cond.lays "java/lang/NegativeArraySizeException" "java/lang/Throwable" "stackTrace" "[Ljava/lang/StackTraceElement;") ∈ lw_all := lw_g (lw_at lw_m5 30 rfl) rfl
theorem q1060 : (Jvm.Cond.lays "java/lang/NegativeArraySizeException" "java/lang/Throwable" "depth" "I") ∈ lw_all := lw_g (lw_at lw_m5 31 rfl) rfl
theorem q1061 : (Jvm.Cond.lays "java/lang/NegativeArraySizeException" "java/lang/Throwable" "suppressedExceptions" "Ljava/util/List;") ∈ lw_all := lw_g (lw_at lw_m5 32 rfl) rfl
theorem q1062 : (Jvm.Cond.superclass "java/lang/NegativeArraySizeException" "java/lang/RuntimeException") ∈ lw_all := lw_g (lw_at lw_m5 33 rfl) rfl
theorem q1063 : (Jvm.Cond.castable "java/lang/NegativeArraySizeException" "java/lang/NegativeArraySizeException") ∈ lw_tbl := lw_at lw_m5 34 rfl
theorem q1064 : (Jvm.Cond.selects "java/lang/NegativeArraySizeException" ({ cls := "java/lang/Throwable", name := "fillInStackTrace", desc := "(I)Ljava/lang/Throwable;" } : Jvm.MethodName) ({ cls := "java/lang/Throwable", name := "fillInStackTrace", desc := "(I)Ljava/lang/Throwable;" } : Jvm.MethodName)) ∈ lw_all := lw_g (lw_at lw_m5 35 rfl) rfl
theorem in_J11 : ∀ w ∈ wsJ110, w ∈ lw_all := lw_in wsJ110 [1056, 1057, 1058, 1059, 1060, 1061] (by decide +kernel) (by decide +kernel)
/-! java/lang/NullPointerException -/
set_option maxRecDepth 100000
def RJ12 : String := "java/lang/NullPointerException"
def TJ12 : u_T := fun k => match k with
  | 0 => ("java/lang/Throwable", "backtrace", "Ljava/lang/Object;", false)
  | 1 => ("java/lang/Throwable", "detailMessage", "Ljava/lang/String;", false)
  | 2 => ("java/lang/Throwable", "cause", "Ljava/lang/Throwable;", false)
  | 3 => ("java/lang/Throwable", "stackTrace", "[Ljava/lang/StackTraceElement;", false)
  | 4 => ("java/lang/Throwable", "depth", "I", false)
  | 5 => ("java/lang/Throwable", "suppressedExceptions", "Ljava/util/List;", false)
  | 6 => ("java/lang/NullPointerException", "extendedMessageState", "I", false)
  | _ => ("java/lang/NullPointerException", "extendedMessage", "Ljava/lang/String;", false)
def tyJ12 : Nat → FieldType := fun k => match k with
  | 0 => .object "java/lang/Object"
  | 1 => .object "java/lang/String"
  | 2 => .object "java/lang/Throwable"
  | 3 => .array (.object "java/lang/StackTraceElement")
  | 4 => .int
  | 5 => .object "java/util/List"
  | 6 => .int
  | _ => .object "java/lang/String"
abbrev wsJ120 : List Cond := u_ws RJ12 TJ12 8
theorem nmJ12 : ∀ a, a < 8 → ∀ b, b < 8 → a ≠ b → (TJ12 a).2.1 ≠ (TJ12 b).2.1 := by decide +kernel
theorem tyJ12_ok : ∀ k, k < 8 → parseFieldDescriptor (TJ12 k).2.2.1 = some (tyJ12 k) := by decide +kernel
abbrev cJ12_init : ByteArray := prog_25_method_1_code
def yJ12_init : MethodName := ⟨RJ12, "<init>", "()V"⟩
theorem dJ12_init_0 : decode cJ12_init 0 = .ok (.aload_n 0, 1) := by decide +kernel
theorem dJ12_init_1 : decode cJ12_init 1 = .ok (.invokespecial 1, 3) := by decide +kernel
theorem dJ12_init_4 : decode cJ12_init 4 = .ok (.return_, 1) := by decide +kernel
theorem q98 : (Jvm.Cond.initialized "java/lang/NullPointerException") ∈ lw_all := lw_g (lw_at lw_m1 29 rfl) rfl
theorem q667 : (Jvm.Cond.selects "java/lang/NullPointerException" ({ cls := "java/lang/Throwable", name := "fillInStackTrace", desc := "()Ljava/lang/Throwable;" } : Jvm.MethodName) ({ cls := "java/lang/NullPointerException", name := "fillInStackTrace", desc := "()Ljava/lang/Throwable;" } : Jvm.MethodName)) ∈ lw_all := lw_g (lw_at lw_m3 118 rfl) rfl
theorem q668 : (Jvm.Cond.instanceMethod ({ cls := "java/lang/NullPointerException", name := "fillInStackTrace", desc := "()Ljava/lang/Throwable;" } : Jvm.MethodName)) ∈ lw_all := lw_g (lw_at lw_m3 119 rfl) rfl
theorem q669 : (Jvm.Cond.codeSync ({ cls := "java/lang/NullPointerException", name := "fillInStackTrace", desc := "()Ljava/lang/Throwable;" } : Jvm.MethodName) prog_25_method_3_code (1 : Nat) (Option.some (Jvm.ClassFile.FieldType.object "java/lang/Throwable"))) ∈ lw_all := lw_g (lw_at lw_m3 120 rfl) rfl
theorem q670 : (Jvm.Cond.methodLink "java/lang/NullPointerException" (16 : Nat) ({ cls := "java/lang/NullPointerException", name := "getExtendedNPEMessage", desc := "()Ljava/lang/String;" } : Jvm.MethodName)) ∈ lw_all := lw_g (lw_at lw_m3 121 rfl) rfl
theorem q671 : (Jvm.Cond.privateMethod ({ cls := "java/lang/NullPointerException", name := "getExtendedNPEMessage", desc := "()Ljava/lang/String;" } : Jvm.MethodName)) ∈ lw_tbl := lw_at lw_m3 122 rfl
theorem q672 : (Jvm.Cond.instanceMethod ({ cls := "java/lang/NullPointerException", name := "getExtendedNPEMessage", desc := "()Ljava/lang/String;" } : Jvm.MethodName)) ∈ lw_all := lw_g (lw_at lw_m3 123 rfl) rfl
theorem q673 : (Jvm.Cond.instantiable "java/lang/NullPointerException" (8 : Nat)) ∈ lw_all := lw_g (lw_at lw_m3 124 rfl) rfl
theorem q674 : (Jvm.Cond.native ({ cls := "java/lang/NullPointerException", name := "getExtendedNPEMessage", desc := "()Ljava/lang/String;" } : Jvm.MethodName)) ∈ lw_all := lw_g (lw_at lw_m3 125 rfl) rfl
theorem q675 : (Jvm.Cond.methodLink "java/lang/NullPointerException" (24 : Nat) ({ cls := "java/lang/RuntimeException", name := "fillInStackTrace", desc := "()Ljava/lang/Throwable;" } : Jvm.MethodName)) ∈ lw_all := lw_g (lw_at lw_m3 126 rfl) rfl
theorem q678 : (Jvm.Cond.superclass "java/lang/NullPointerException" "java/lang/RuntimeException") ∈ lw_all := lw_g (lw_at lw_m3 129 rfl) rfl
theorem q1081 : (Jvm.Cond.instanceMethod ({ cls := "java/lang/NullPointerException", name := "<init>", desc := "()V" } : Jvm.MethodName)) ∈ lw_all := lw_g (lw_at lw_m5 52 rfl) rfl
theorem q1082 : (Jvm.Cond.code ({ cls := "java/lang/NullPointerException", name := "<init>", desc := "()V" } : Jvm.MethodName) prog_25_method_1_code (1 : Nat) (Option.none : Option Jvm.ClassFile.FieldType)) ∈ lw_all := lw_g (lw_at lw_m5 53 rfl) rfl
theorem q1083 : (Jvm.Cond.methodLink "java/lang/NullPointerException" (1 : Nat) ({ cls := "java/lang/RuntimeException", name := "<init>", desc := "()V" } : Jvm.MethodName)) ∈ lw_all := lw_g (lw_at lw_m5 54 rfl) rfl
theorem q1084 : (Jvm.Cond.fieldLink "java/lang/NullPointerException" (10 : Nat) "java/lang/NullPointerException" "extendedMessageState" "I") ∈ lw_all := lw_g (lw_at lw_m5 55 rfl) rfl
theorem q1085 : (Jvm.Cond.fieldLink "java/lang/NullPointerException" (20 : Nat) "java/lang/NullPointerException" "extendedMessage" "Ljava/lang/String;") ∈ lw_all := lw_g (lw_at lw_m5 56 rfl) rfl
theorem q1086 : (Jvm.Cond.lays "java/lang/NullPointerException" "java/lang/NullPointerException" "extendedMessageState" "I") ∈ lw_all := lw_g (lw_at lw_m5 57 rfl) rfl
theorem q1087 : (Jvm.Cond.soleField "java/lang/NullPointerException" "extendedMessageState") ∈ lw_all := lw_g (lw_at lw_m5 58 rfl) rfl
theorem q1088 : (Jvm.Cond.lays "java/lang/NullPointerException" "java/lang/NullPointerException" "extendedMessage" "Ljava/lang/String;") ∈ lw_all := lw_g (lw_at lw_m5 59 rfl) rfl
theorem q1089 : (Jvm.Cond.soleField "java/lang/NullPointerException" "extendedMessage") ∈ lw_all := lw_g (lw_at lw_m5 60 rfl) rfl
theorem q1090 : (Jvm.Cond.lays "java/lang/NullPointerException" "java/lang/Throwable" "backtrace" "Ljava/lang/Object;") ∈ lw_all := lw_g (lw_at lw_m5 61 rfl) rfl
theorem q1091 : (Jvm.Cond.lays "java/lang/NullPointerException" "java/lang/Throwable" "detailMessage" "Ljava/lang/String;") ∈ lw_all := lw_g (lw_at lw_m5 62 rfl) rfl
theorem q1092 : (Jvm.Cond.lays "java/lang/NullPointerException" "java/lang/Throwable" "cause" "Ljava/lang/Throwable;") ∈ lw_all := lw_g (lw_at lw_m5 63 rfl) rfl
theorem q1093 : (Jvm.Cond.lays "java/lang/NullPointerException" "java/lang/Throwable" "stackTrace" "[Ljava/lang/StackTraceElement;") ∈ lw_all := lw_g (lw_at lw_m5 64 rfl) rfl
theorem q1094 : (Jvm.Cond.lays "java/lang/NullPointerException" "java/lang/Throwable" "depth" "I") ∈ lw_all := lw_g (lw_at lw_m5 65 rfl) rfl
theorem q1095 : (Jvm.Cond.lays "java/lang/NullPointerException" "java/lang/Throwable" "suppressedExceptions" "Ljava/util/List;") ∈ lw_all := lw_g (lw_at lw_m5 66 rfl) rfl
theorem q1096 : (Jvm.Cond.castable "java/lang/NullPointerException" "java/lang/NullPointerException") ∈ lw_tbl := lw_at lw_m5 67 rfl
theorem q1097 : (Jvm.Cond.selects "java/lang/NullPointerException" ({ cls := "java/lang/Throwable", name := "fillInStackTrace", desc := "(I)Ljava/lang/Throwable;" } : Jvm.MethodName) ({ cls := "java/lang/Throwable", name := "fillInStackTrace", desc := "(I)Ljava/lang/Throwable;" } : Jvm.MethodName)) ∈ lw_all := lw_g (lw_at lw_m5 68 rfl) rfl
theorem in_J12 : ∀ w ∈ wsJ120, w ∈ lw_all := lw_in wsJ120 [1090, 1091, 1092, 1093, 1094, 1095, 1086, 1088] (by decide +kernel) (by decide +kernel)
/-! java/lang/ArrayIndexOutOfBoundsException -/
set_option maxRecDepth 100000
def RJ13 : String := "java/lang/ArrayIndexOutOfBoundsException"
def TJ13 : u_T := fun k => match k with
  | 0 => ("java/lang/Throwable", "backtrace", "Ljava/lang/Object;", false)
  | 1 => ("java/lang/Throwable", "detailMessage", "Ljava/lang/String;", false)
  | 2 => ("java/lang/Throwable", "cause", "Ljava/lang/Throwable;", false)
  | 3 => ("java/lang/Throwable", "stackTrace", "[Ljava/lang/StackTraceElement;", false)
  | 4 => ("java/lang/Throwable", "depth", "I", false)
  | _ => ("java/lang/Throwable", "suppressedExceptions", "Ljava/util/List;", false)
def tyJ13 : Nat → FieldType := fun k => match k with
  | 0 => .object "java/lang/Object"
  | 1 => .object "java/lang/String"
  | 2 => .object "java/lang/Throwable"
  | 3 => .array (.object "java/lang/StackTraceElement")
  | 4 => .int
  | _ => .object "java/util/List"
abbrev wsJ130 : List Cond := u_ws RJ13 TJ13 6
theorem nmJ13 : ∀ a, a < 6 → ∀ b, b < 6 → a ≠ b → (TJ13 a).2.1 ≠ (TJ13 b).2.1 := by decide +kernel
theorem tyJ13_ok : ∀ k, k < 6 → parseFieldDescriptor (TJ13 k).2.2.1 = some (tyJ13 k) := by decide +kernel
abbrev cJ13_init : ByteArray := prog_17_method_2_code
def yJ13_init : MethodName := ⟨RJ13, "<init>", "(Ljava/lang/String;)V"⟩
def dkwJ13_init_0 : List UInt8 := [42, 43, 183, 0, 7, 177]
abbrev dktJ13_init_0 : List UInt8 := dkwJ13_init_0 ++ []
theorem dksJ13_init_0 : cJ13_init.data.toList.drop 0 = dktJ13_init_0 := by decide +kernel
theorem dJ13_init_0 : decode cJ13_init 0 = .ok (.aload_n 0, 1) := dk_42 (dk_at dksJ13_init_0 0 rfl rfl)
theorem dJ13_init_1 : decode cJ13_init 1 = .ok (.aload_n 1, 1) := dk_43 (dk_at dksJ13_init_0 1 rfl rfl)
theorem dJ13_init_2 : decode cJ13_init 2 = .ok (.invokespecial 7, 3) := dk_183 0 7 (dk_at dksJ13_init_0 2 rfl rfl)
theorem dJ13_init_5 : decode cJ13_init 5 = .ok (.return_, 1) := dk_177 (dk_at dksJ13_init_0 5 rfl rfl)
theorem q99 : (Jvm.Cond.initialized "java/lang/ArrayIndexOutOfBoundsException") ∈ lw_all := lw_g (lw_at lw_m1 30 rfl) rfl
theorem q663 : (Jvm.Cond.selects "java/lang/ArrayIndexOutOfBoundsException" ({ cls := "java/lang/Throwable", name := "fillInStackTrace", desc := "()Ljava/lang/Throwable;" } : Jvm.MethodName) ({ cls := "java/lang/Throwable", name := "fillInStackTrace", desc := "()Ljava/lang/Throwable;" } : Jvm.MethodName)) ∈ lw_all := lw_g (lw_at lw_m3 114 rfl) rfl
theorem q1099 : (Jvm.Cond.instantiable "java/lang/ArrayIndexOutOfBoundsException" (6 : Nat)) ∈ lw_all := lw_g (lw_at lw_m5 70 rfl) rfl
theorem q1100 : (Jvm.Cond.instanceMethod ({ cls := "java/lang/ArrayIndexOutOfBoundsException", name := "<init>", desc := "(Ljava/lang/String;)V" } : Jvm.MethodName)) ∈ lw_all := lw_g (lw_at lw_m5 71 rfl) rfl
theorem q1101 : (Jvm.Cond.code ({ cls := "java/lang/ArrayIndexOutOfBoundsException", name := "<init>", desc := "(Ljava/lang/String;)V" } : Jvm.MethodName) prog_17_method_2_code (2 : Nat) (Option.none : Option Jvm.ClassFile.FieldType)) ∈ lw_all := lw_g (lw_at lw_m5 72 rfl) rfl
theorem q1102 : (Jvm.Cond.methodLink "java/lang/ArrayIndexOutOfBoundsException" (7 : Nat) ({ cls := "java/lang/IndexOutOfBoundsException", name := "<init>", desc := "(Ljava/lang/String;)V" } : Jvm.MethodName)) ∈ lw_all := lw_g (lw_at lw_m5 73 rfl) rfl
theorem q1106 : (Jvm.Cond.lays "java/lang/ArrayIndexOutOfBoundsException" "java/lang/Throwable" "backtrace" "Ljava/lang/Object;") ∈ lw_all := lw_g (lw_at lw_m5 77 rfl) rfl
theorem q1107 : (Jvm.Cond.lays "java/lang/ArrayIndexOutOfBoundsException" "java/lang/Throwable" "detailMessage" "Ljava/lang/String;") ∈ lw_all := lw_g (lw_at lw_m5 78 rfl) rfl
theorem q1108 : (Jvm.Cond.lays "java/lang/ArrayIndexOutOfBoundsException" "java/lang/Throwable" "cause" "Ljava/lang/Throwable;") ∈ lw_all := lw_g (lw_at lw_m5 79 rfl) rfl
theorem q1109 : (Jvm.Cond.lays "java/lang/ArrayIndexOutOfBoundsException" "java/lang/Throwable" "stackTrace" "[Ljava/lang/StackTraceElement;") ∈ lw_all := lw_g (lw_at lw_m5 80 rfl) rfl
theorem q1110 : (Jvm.Cond.lays "java/lang/ArrayIndexOutOfBoundsException" "java/lang/Throwable" "depth" "I") ∈ lw_all := lw_g (lw_at lw_m5 81 rfl) rfl
theorem q1111 : (Jvm.Cond.lays "java/lang/ArrayIndexOutOfBoundsException" "java/lang/Throwable" "suppressedExceptions" "Ljava/util/List;") ∈ lw_all := lw_g (lw_at lw_m5 82 rfl) rfl
theorem q1112 : (Jvm.Cond.superclass "java/lang/ArrayIndexOutOfBoundsException" "java/lang/IndexOutOfBoundsException") ∈ lw_all := lw_g (lw_at lw_m5 83 rfl) rfl
theorem q1113 : (Jvm.Cond.castable "java/lang/ArrayIndexOutOfBoundsException" "java/lang/ArrayIndexOutOfBoundsException") ∈ lw_tbl := lw_at lw_m5 84 rfl
theorem q1116 : (Jvm.Cond.selects "java/lang/ArrayIndexOutOfBoundsException" ({ cls := "java/lang/Throwable", name := "fillInStackTrace", desc := "(I)Ljava/lang/Throwable;" } : Jvm.MethodName) ({ cls := "java/lang/Throwable", name := "fillInStackTrace", desc := "(I)Ljava/lang/Throwable;" } : Jvm.MethodName)) ∈ lw_all := lw_g (lw_at lw_m5 87 rfl) rfl
theorem q1551 : (Jvm.Cond.castable "java/lang/ArrayIndexOutOfBoundsException" "java/lang/IndexOutOfBoundsException") ∈ lw_tbl := lw_at lw_m7 42 rfl
theorem in_J13 : ∀ w ∈ wsJ130, w ∈ lw_all := lw_in wsJ130 [1106, 1107, 1108, 1109, 1110, 1111] (by decide +kernel) (by decide +kernel)
/-! java/lang/ClassCastException -/
set_option maxRecDepth 100000
def RJ14 : String := "java/lang/ClassCastException"
def TJ14 : u_T := fun k => match k with
  | 0 => ("java/lang/Throwable", "backtrace", "Ljava/lang/Object;", false)
  | 1 => ("java/lang/Throwable", "detailMessage", "Ljava/lang/String;", false)
  | 2 => ("java/lang/Throwable", "cause", "Ljava/lang/Throwable;", false)
  | 3 => ("java/lang/Throwable", "stackTrace", "[Ljava/lang/StackTraceElement;", false)
  | 4 => ("java/lang/Throwable", "depth", "I", false)
  | _ => ("java/lang/Throwable", "suppressedExceptions", "Ljava/util/List;", false)
def tyJ14 : Nat → FieldType := fun k => match k with
  | 0 => .object "java/lang/Object"
  | 1 => .object "java/lang/String"
  | 2 => .object "java/lang/Throwable"
  | 3 => .array (.object "java/lang/StackTraceElement")
  | 4 => .int
  | _ => .object "java/util/List"
abbrev wsJ140 : List Cond := u_ws RJ14 TJ14 6
theorem nmJ14 : ∀ a, a < 6 → ∀ b, b < 6 → a ≠ b → (TJ14 a).2.1 ≠ (TJ14 b).2.1 := by decide +kernel
theorem tyJ14_ok : ∀ k, k < 6 → parseFieldDescriptor (TJ14 k).2.2.1 = some (tyJ14 k) := by decide +kernel
abbrev cJ14_init : ByteArray := prog_19_method_2_code
def yJ14_init : MethodName := ⟨RJ14, "<init>", "(Ljava/lang/String;)V"⟩
def dkwJ14_init_0 : List UInt8 := [42, 43, 183, 0, 7, 177]
abbrev dktJ14_init_0 : List UInt8 := dkwJ14_init_0 ++ []
theorem dksJ14_init_0 : cJ14_init.data.toList.drop 0 = dktJ14_init_0 := by decide +kernel
theorem dJ14_init_0 : decode cJ14_init 0 = .ok (.aload_n 0, 1) := dk_42 (dk_at dksJ14_init_0 0 rfl rfl)
theorem dJ14_init_1 : decode cJ14_init 1 = .ok (.aload_n 1, 1) := dk_43 (dk_at dksJ14_init_0 1 rfl rfl)
theorem dJ14_init_2 : decode cJ14_init 2 = .ok (.invokespecial 7, 3) := dk_183 0 7 (dk_at dksJ14_init_0 2 rfl rfl)
theorem dJ14_init_5 : decode cJ14_init 5 = .ok (.return_, 1) := dk_177 (dk_at dksJ14_init_0 5 rfl rfl)
theorem q100 : (Jvm.Cond.initialized "java/lang/ClassCastException") ∈ lw_all := lw_g (lw_at lw_m1 31 rfl) rfl
theorem q664 : (Jvm.Cond.selects "java/lang/ClassCastException" ({ cls := "java/lang/Throwable", name := "fillInStackTrace", desc := "()Ljava/lang/Throwable;" } : Jvm.MethodName) ({ cls := "java/lang/Throwable", name := "fillInStackTrace", desc := "()Ljava/lang/Throwable;" } : Jvm.MethodName)) ∈ lw_all := lw_g (lw_at lw_m3 115 rfl) rfl
theorem q1129 : (Jvm.Cond.instantiable "java/lang/ClassCastException" (6 : Nat)) ∈ lw_all := lw_g (lw_at lw_m5 100 rfl) rfl
theorem q1130 : (Jvm.Cond.instanceMethod ({ cls := "java/lang/ClassCastException", name := "<init>", desc := "(Ljava/lang/String;)V" } : Jvm.MethodName)) ∈ lw_all := lw_g (lw_at lw_m5 101 rfl) rfl
theorem q1131 : (Jvm.Cond.code ({ cls := "java/lang/ClassCastException", name := "<init>", desc := "(Ljava/lang/String;)V" } : Jvm.MethodName) prog_19_method_2_code (2 : Nat) (Option.none : Option Jvm.ClassFile.FieldType)) ∈ lw_all := lw_g (lw_at lw_m5 102 rfl) rfl
theorem q1132 : (Jvm.Cond.methodLink "java/lang/ClassCastException" (7 : Nat) ({ cls := "java/lang/RuntimeException", name := "<init>", desc := "(Ljava/lang/String;)V" } : Jvm.MethodName)) ∈ lw_all := lw_g (lw_at lw_m5 103 rfl) rfl
theorem q1133 : (Jvm.Cond.lays "java/lang/ClassCastException" "java/lang/Throwable" "backtrace" "Ljava/lang/Object;") ∈ lw_all := lw_g (lw_at lw_m5 104 rfl) rfl
theorem q1134 : (Jvm.Cond.lays "java/lang/ClassCastException" "java/lang/Throwable" "detailMessage" "Ljava/lang/String;") ∈ lw_all := lw_g (lw_at lw_m5 105 rfl) rfl
theorem q1135 : (Jvm.Cond.lays "java/lang/ClassCastException" "java/lang/Throwable" "cause" "Ljava/lang/Throwable;") ∈ lw_all := lw_g (lw_at lw_m5 106 rfl) rfl
theorem q1136 : (Jvm.Cond.lays "java/lang/ClassCastException" "java/lang/Throwable" "stackTrace" "[Ljava/lang/StackTraceElement;") ∈ lw_all := lw_g (lw_at lw_m5 107 rfl) rfl
theorem q1137 : (Jvm.Cond.lays "java/lang/ClassCastException" "java/lang/Throwable" "depth" "I") ∈ lw_all := lw_g (lw_at lw_m5 108 rfl) rfl
theorem q1138 : (Jvm.Cond.lays "java/lang/ClassCastException" "java/lang/Throwable" "suppressedExceptions" "Ljava/util/List;") ∈ lw_all := lw_g (lw_at lw_m5 109 rfl) rfl
theorem q1139 : (Jvm.Cond.superclass "java/lang/ClassCastException" "java/lang/RuntimeException") ∈ lw_all := lw_g (lw_at lw_m5 110 rfl) rfl
theorem q1140 : (Jvm.Cond.castable "java/lang/ClassCastException" "java/lang/ClassCastException") ∈ lw_tbl := lw_at lw_m5 111 rfl
theorem q1141 : (Jvm.Cond.selects "java/lang/ClassCastException" ({ cls := "java/lang/Throwable", name := "fillInStackTrace", desc := "(I)Ljava/lang/Throwable;" } : Jvm.MethodName) ({ cls := "java/lang/Throwable", name := "fillInStackTrace", desc := "(I)Ljava/lang/Throwable;" } : Jvm.MethodName)) ∈ lw_all := lw_g (lw_at lw_m5 112 rfl) rfl
theorem in_J14 : ∀ w ∈ wsJ140, w ∈ lw_all := lw_in wsJ140 [1133, 1134, 1135, 1136, 1137, 1138] (by decide +kernel) (by decide +kernel)
/-! java/lang/Object -/
set_option maxRecDepth 100000
def RJ15 : String := "java/lang/Object"
abbrev cJ15_init : ByteArray := object_method_1_code
def yJ15_init : MethodName := ⟨RJ15, "<init>", "()V"⟩
theorem dJ15_init_0 : decode cJ15_init 0 = .ok (.return_, 1) := by decide +kernel
theorem q126 : (Jvm.Cond.instanceMethod ({ cls := "java/lang/Object", name := "<init>", desc := "()V" } : Jvm.MethodName)) ∈ lw_all := lw_g (lw_at lw_m1 57 rfl) rfl
theorem q127 : (Jvm.Cond.code ({ cls := "java/lang/Object", name := "<init>", desc := "()V" } : Jvm.MethodName) object_method_1_code (1 : Nat) (Option.none : Option Jvm.ClassFile.FieldType)) ∈ lw_all := lw_g (lw_at lw_m1 58 rfl) rfl
theorem q69 : (Jvm.Cond.initialized "BoatsCalledInLaw") ∈ lw_all := lw_g (lw_at lw_m1 0 rfl) rfl
set_option maxRecDepth 100000
theorem q101 : (Jvm.Cond.methodLink "BoatsCalledInLaw" (13 : Nat) ({ cls := "BoatsCalledIn", name := "boat", desc := "(III)I" } : Jvm.MethodName)) ∈ lw_all := lw_g (lw_at lw_m1 32 rfl) rfl
theorem q176 : (Jvm.Cond.methodLink "BoatsCalledInLaw" (18 : Nat) ({ cls := "BoatsCalledIn", name := "set", desc := "(III)I" } : Jvm.MethodName)) ∈ lw_all := lw_g (lw_at lw_m1 107 rfl) rfl
theorem q202 : (Jvm.Cond.methodLink "BoatsCalledInLaw" (22 : Nat) ({ cls := "BoatsCalledIn", name := "told", desc := "(II)I" } : Jvm.MethodName)) ∈ lw_all := lw_g (lw_at lw_m1 133 rfl) rfl
theorem q379 : (Jvm.Cond.methodLink "BoatsCalledInLaw" (27 : Nat) ({ cls := "BoatsCalledIn", name := "feed", desc := "(I)I" } : Jvm.MethodName)) ∈ lw_all := lw_g (lw_at lw_m2 70 rfl) rfl
theorem q384 : (Jvm.Cond.methodLink "BoatsCalledInLaw" (32 : Nat) ({ cls := "BoatsCalledIn", name := "text", desc := "()I" } : Jvm.MethodName)) ∈ lw_all := lw_g (lw_at lw_m2 75 rfl) rfl
theorem q625 : (Jvm.Cond.classLink "BoatsCalledInLaw" (7 : Nat) "BoatsCalledIn") ∈ lw_all := lw_g (lw_at lw_m3 76 rfl) rfl
theorem q626 : (Jvm.Cond.methodLink "BoatsCalledInLaw" (9 : Nat) ({ cls := "BoatsCalledIn", name := "<init>", desc := "()V" } : Jvm.MethodName)) ∈ lw_all := lw_g (lw_at lw_m3 77 rfl) rfl
theorem q857 : (Jvm.Cond.methodLink "BoatsCalledInLaw" (37 : Nat) ({ cls := "BoatsCalledIn", name := "force", desc := "(I)I" } : Jvm.MethodName)) ∈ lw_all := lw_g (lw_at lw_m4 68 rfl) rfl
theorem q865 : (Jvm.Cond.methodLink "BoatsCalledInLaw" (41 : Nat) ({ cls := "BoatsCalledIn", name := "call", desc := "(I)I" } : Jvm.MethodName)) ∈ lw_all := lw_g (lw_at lw_m4 76 rfl) rfl
theorem q877 : (Jvm.Cond.methodLink "BoatsCalledInLaw" (45 : Nat) ({ cls := "BoatsCalledIn", name := "time", desc := "(I)I" } : Jvm.MethodName)) ∈ lw_all := lw_g (lw_at lw_m4 88 rfl) rfl
theorem q889 : (Jvm.Cond.methodLink "BoatsCalledInLaw" (49 : Nat) ({ cls := "BoatsCalledIn", name := "nobody", desc := "()I" } : Jvm.MethodName)) ∈ lw_all := lw_g (lw_at lw_m4 100 rfl) rfl
theorem q893 : (Jvm.Cond.methodLink "BoatsCalledInLaw" (53 : Nat) ({ cls := "BoatsCalledIn", name := "callAt", desc := "(I)I" } : Jvm.MethodName)) ∈ lw_all := lw_g (lw_at lw_m4 104 rfl) rfl
theorem q897 : (Jvm.Cond.methodLink "BoatsCalledInLaw" (57 : Nat) ({ cls := "BoatsCalledIn", name := "allIn", desc := "()I" } : Jvm.MethodName)) ∈ lw_all := lw_g (lw_at lw_m4 108 rfl) rfl
theorem q905 : (Jvm.Cond.methodLink "BoatsCalledInLaw" (61 : Nat) ({ cls := "BoatsCalledIn", name := "fetch", desc := "(II)I" } : Jvm.MethodName)) ∈ lw_all := lw_g (lw_at lw_m4 116 rfl) rfl
theorem q939 : (Jvm.Cond.methodLink "BoatsCalledInLaw" (65 : Nat) ({ cls := "BoatsCalledIn", name := "launch", desc := "(I)I" } : Jvm.MethodName)) ∈ lw_all := lw_g (lw_at lw_m4 150 rfl) rfl
theorem q943 : (Jvm.Cond.methodLink "BoatsCalledInLaw" (69 : Nat) ({ cls := "BoatsCalledIn", name := "one", desc := "(I)I" } : Jvm.MethodName)) ∈ lw_all := lw_g (lw_at lw_m4 154 rfl) rfl
theorem q947 : (Jvm.Cond.methodLink "BoatsCalledInLaw" (73 : Nat) ({ cls := "BoatsCalledIn", name := "thunder", desc := "(II)I" } : Jvm.MethodName)) ∈ lw_all := lw_g (lw_at lw_m4 158 rfl) rfl
theorem q956 : (Jvm.Cond.methodLink "BoatsCalledInLaw" (77 : Nat) ({ cls := "BoatsCalledIn", name := "stand", desc := "()I" } : Jvm.MethodName)) ∈ lw_all := lw_g (lw_at lw_m4 167 rfl) rfl
theorem q960 : (Jvm.Cond.methodLink "BoatsCalledInLaw" (81 : Nat) ({ cls := "BoatsCalledIn", name := "heard", desc := "(I)I" } : Jvm.MethodName)) ∈ lw_all := lw_g (lw_at lw_m4 171 rfl) rfl
theorem q1003 : (Jvm.Cond.methodLink "BoatsCalledInLaw" (85 : Nat) ({ cls := "BoatsCalledIn", name := "where", desc := "(II)I" } : Jvm.MethodName)) ∈ lw_all := lw_g (lw_at lw_m4 214 rfl) rfl
theorem q1011 : (Jvm.Cond.methodLink "BoatsCalledInLaw" (89 : Nat) ({ cls := "BoatsCalledIn", name := "drawn", desc := "(I)I" } : Jvm.MethodName)) ∈ lw_all := lw_g (lw_at lw_m4 222 rfl) rfl
theorem q1016 : (Jvm.Cond.methodLink "BoatsCalledInLaw" (93 : Nat) ({ cls := "BoatsCalledIn", name := "chance", desc := "(III)J" } : Jvm.MethodName)) ∈ lw_all := lw_g (lw_at lw_m4 227 rfl) rfl
theorem q1023 : (Jvm.Cond.methodLink "BoatsCalledInLaw" (98 : Nat) ({ cls := "BoatsCalledIn", name := "image", desc := "()I" } : Jvm.MethodName)) ∈ lw_all := lw_g (lw_at lw_m4 234 rfl) rfl
theorem q1027 : (Jvm.Cond.methodLink "BoatsCalledInLaw" (102 : Nat) ({ cls := "BoatsCalledIn", name := "back", desc := "()I" } : Jvm.MethodName)) ∈ lw_all := lw_g (lw_at lw_m4 238 rfl) rfl
theorem q1031 : (Jvm.Cond.methodLink "BoatsCalledInLaw" (106 : Nat) ({ cls := "BoatsCalledIn", name := "count", desc := "(I)I" } : Jvm.MethodName)) ∈ lw_all := lw_g (lw_at lw_m5 2 rfl) rfl
theorem q1039 : (Jvm.Cond.methodLink "BoatsCalledInLaw" (110 : Nat) ({ cls := "BoatsCalledIn", name := "sheet", desc := "(III)I" } : Jvm.MethodName)) ∈ lw_all := lw_g (lw_at lw_m5 10 rfl) rfl
theorem q1076 : (Jvm.Cond.methodLink "BoatsCalledInLaw" (114 : Nat) ({ cls := "BoatsCalledIn", name := "cell", desc := "(III)I" } : Jvm.MethodName)) ∈ lw_all := lw_g (lw_at lw_m5 47 rfl) rfl
theorem q1120 : (Jvm.Cond.methodLink "BoatsCalledInLaw" (118 : Nat) ({ cls := "BoatsCalledIn", name := "copy", desc := "(IIIII)I" } : Jvm.MethodName)) ∈ lw_all := lw_g (lw_at lw_m5 91 rfl) rfl
theorem q1124 : (Jvm.Cond.methodLink "BoatsCalledInLaw" (123 : Nat) ({ cls := "BoatsCalledIn", name := "boats", desc := "(IIII)I" } : Jvm.MethodName)) ∈ lw_all := lw_g (lw_at lw_m5 95 rfl) rfl
theorem q1147 : (Jvm.Cond.methodLink "BoatsCalledInLaw" (128 : Nat) ({ cls := "BoatsCalledIn", name := "taken", desc := "(II)I" } : Jvm.MethodName)) ∈ lw_all := lw_g (lw_at lw_m5 118 rfl) rfl
theorem q1154 : (Jvm.Cond.classLink "BoatsCalledInLaw" (10 : Nat) "BoatsCalledInModel") ∈ lw_all := lw_g (lw_at lw_m5 125 rfl) rfl
theorem q1156 : (Jvm.Cond.methodLink "BoatsCalledInLaw" (12 : Nat) ({ cls := "BoatsCalledInModel", name := "<init>", desc := "()V" } : Jvm.MethodName)) ∈ lw_all := lw_g (lw_at lw_m5 127 rfl) rfl
theorem q1361 : (Jvm.Cond.methodLink "BoatsCalledInLaw" (17 : Nat) ({ cls := "BoatsCalledInModel", name := "boat", desc := "(III)I" } : Jvm.MethodName)) ∈ lw_all := lw_g (lw_at lw_m6 92 rfl) rfl
theorem q1366 : (Jvm.Cond.methodLink "BoatsCalledInLaw" (21 : Nat) ({ cls := "BoatsCalledInModel", name := "set", desc := "(III)I" } : Jvm.MethodName)) ∈ lw_all := lw_g (lw_at lw_m6 97 rfl) rfl
theorem q1374 : (Jvm.Cond.methodLink "BoatsCalledInLaw" (26 : Nat) ({ cls := "BoatsCalledInModel", name := "told", desc := "(II)I" } : Jvm.MethodName)) ∈ lw_all := lw_g (lw_at lw_m6 105 rfl) rfl
theorem q1408 : (Jvm.Cond.methodLink "BoatsCalledInLaw" (31 : Nat) ({ cls := "BoatsCalledInModel", name := "feed", desc := "(I)I" } : Jvm.MethodName)) ∈ lw_all := lw_g (lw_at lw_m6 139 rfl) rfl
theorem q1409 : (Jvm.Cond.methodLink "BoatsCalledInLaw" (36 : Nat) ({ cls := "BoatsCalledInModel", name := "text", desc := "()I" } : Jvm.MethodName)) ∈ lw_all := lw_g (lw_at lw_m6 140 rfl) rfl
theorem q1410 : (Jvm.Cond.methodLink "BoatsCalledInLaw" (40 : Nat) ({ cls := "BoatsCalledInModel", name := "force", desc := "(I)I" } : Jvm.MethodName)) ∈ lw_all := lw_g (lw_at lw_m6 141 rfl) rfl
theorem q1414 : (Jvm.Cond.methodLink "BoatsCalledInLaw" (44 : Nat) ({ cls := "BoatsCalledInModel", name := "call", desc := "(I)I" } : Jvm.MethodName)) ∈ lw_all := lw_g (lw_at lw_m6 145 rfl) rfl
theorem q1422 : (Jvm.Cond.methodLink "BoatsCalledInLaw" (48 : Nat) ({ cls := "BoatsCalledInModel", name := "time", desc := "(I)I" } : Jvm.MethodName)) ∈ lw_all := lw_g (lw_at lw_m6 153 rfl) rfl
theorem q1434 : (Jvm.Cond.methodLink "BoatsCalledInLaw" (52 : Nat) ({ cls := "BoatsCalledInModel", name := "nobody", desc := "()I" } : Jvm.MethodName)) ∈ lw_all := lw_g (lw_at lw_m6 165 rfl) rfl
theorem q1438 : (Jvm.Cond.methodLink "BoatsCalledInLaw" (56 : Nat) ({ cls := "BoatsCalledInModel", name := "callAt", desc := "(I)I" } : Jvm.MethodName)) ∈ lw_all := lw_g (lw_at lw_m6 169 rfl) rfl
theorem q1442 : (Jvm.Cond.methodLink "BoatsCalledInLaw" (60 : Nat) ({ cls := "BoatsCalledInModel", name := "allIn", desc := "()I" } : Jvm.MethodName)) ∈ lw_all := lw_g (lw_at lw_m6 173 rfl) rfl
theorem q1450 : (Jvm.Cond.methodLink "BoatsCalledInLaw" (64 : Nat) ({ cls := "BoatsCalledInModel", name := "fetch", desc := "(II)I" } : Jvm.MethodName)) ∈ lw_all := lw_g (lw_at lw_m6 181 rfl) rfl
theorem q1467 : (Jvm.Cond.methodLink "BoatsCalledInLaw" (68 : Nat) ({ cls := "BoatsCalledInModel", name := "launch", desc := "(I)I" } : Jvm.MethodName)) ∈ lw_all := lw_g (lw_at lw_m6 198 rfl) rfl
theorem q1471 : (Jvm.Cond.methodLink "BoatsCalledInLaw" (72 : Nat) ({ cls := "BoatsCalledInModel", name := "one", desc := "(I)I" } : Jvm.MethodName)) ∈ lw_all := lw_g (lw_at lw_m6 202 rfl) rfl
theorem q1475 : (Jvm.Cond.methodLink "BoatsCalledInLaw" (76 : Nat) ({ cls := "BoatsCalledInModel", name := "thunder", desc := "(II)I" } : Jvm.MethodName)) ∈ lw_all := lw_g (lw_at lw_m6 206 rfl) rfl
theorem q1480 : (Jvm.Cond.methodLink "BoatsCalledInLaw" (80 : Nat) ({ cls := "BoatsCalledInModel", name := "stand", desc := "()I" } : Jvm.MethodName)) ∈ lw_all := lw_g (lw_at lw_m6 211 rfl) rfl
theorem q1484 : (Jvm.Cond.methodLink "BoatsCalledInLaw" (84 : Nat) ({ cls := "BoatsCalledInModel", name := "heard", desc := "(I)I" } : Jvm.MethodName)) ∈ lw_all := lw_g (lw_at lw_m6 215 rfl) rfl
theorem q1488 : (Jvm.Cond.methodLink "BoatsCalledInLaw" (88 : Nat) ({ cls := "BoatsCalledInModel", name := "where", desc := "(II)I" } : Jvm.MethodName)) ∈ lw_all := lw_g (lw_at lw_m6 219 rfl) rfl
theorem q1492 : (Jvm.Cond.methodLink "BoatsCalledInLaw" (92 : Nat) ({ cls := "BoatsCalledInModel", name := "drawn", desc := "(I)I" } : Jvm.MethodName)) ∈ lw_all := lw_g (lw_at lw_m6 223 rfl) rfl
theorem q1497 : (Jvm.Cond.methodLink "BoatsCalledInLaw" (97 : Nat) ({ cls := "BoatsCalledInModel", name := "chance", desc := "(III)J" } : Jvm.MethodName)) ∈ lw_all := lw_g (lw_at lw_m6 228 rfl) rfl
theorem q1506 : (Jvm.Cond.methodLink "BoatsCalledInLaw" (101 : Nat) ({ cls := "BoatsCalledInModel", name := "image", desc := "()I" } : Jvm.MethodName)) ∈ lw_all := lw_g (lw_at lw_m6 237 rfl) rfl
theorem q1510 : (Jvm.Cond.methodLink "BoatsCalledInLaw" (105 : Nat) ({ cls := "BoatsCalledInModel", name := "back", desc := "()I" } : Jvm.MethodName)) ∈ lw_all := lw_g (lw_at lw_m7 1 rfl) rfl
theorem q1514 : (Jvm.Cond.methodLink "BoatsCalledInLaw" (109 : Nat) ({ cls := "BoatsCalledInModel", name := "count", desc := "(I)I" } : Jvm.MethodName)) ∈ lw_all := lw_g (lw_at lw_m7 5 rfl) rfl
theorem q1522 : (Jvm.Cond.methodLink "BoatsCalledInLaw" (113 : Nat) ({ cls := "BoatsCalledInModel", name := "sheet", desc := "(III)I" } : Jvm.MethodName)) ∈ lw_all := lw_g (lw_at lw_m7 13 rfl) rfl
theorem q1526 : (Jvm.Cond.methodLink "BoatsCalledInLaw" (117 : Nat) ({ cls := "BoatsCalledInModel", name := "cell", desc := "(III)I" } : Jvm.MethodName)) ∈ lw_all := lw_g (lw_at lw_m7 17 rfl) rfl
theorem q1530 : (Jvm.Cond.methodLink "BoatsCalledInLaw" (122 : Nat) ({ cls := "BoatsCalledInModel", name := "copy", desc := "(IIIII)I" } : Jvm.MethodName)) ∈ lw_all := lw_g (lw_at lw_m7 21 rfl) rfl
theorem q1534 : (Jvm.Cond.methodLink "BoatsCalledInLaw" (127 : Nat) ({ cls := "BoatsCalledInModel", name := "boats", desc := "(IIII)I" } : Jvm.MethodName)) ∈ lw_all := lw_g (lw_at lw_m7 25 rfl) rfl
theorem q1541 : (Jvm.Cond.methodLink "BoatsCalledInLaw" (131 : Nat) ({ cls := "BoatsCalledInModel", name := "taken", desc := "(II)I" } : Jvm.MethodName)) ∈ lw_all := lw_g (lw_at lw_m7 32 rfl) rfl
theorem q95 : (Jvm.Cond.initialized "java/lang/System") ∈ lw_all := lw_g (lw_at lw_m1 26 rfl) rfl
set_option maxRecDepth 100000
theorem q937 : (Jvm.Cond.static ({ cls := "java/lang/System", name := "arraycopy", desc := "(Ljava/lang/Object;ILjava/lang/Object;II)V" } : Jvm.MethodName)) ∈ lw_all := lw_g (lw_at lw_m4 148 rfl) rfl
theorem q938 : (Jvm.Cond.native ({ cls := "java/lang/System", name := "arraycopy", desc := "(Ljava/lang/Object;ILjava/lang/Object;II)V" } : Jvm.MethodName)) ∈ lw_all := lw_g (lw_at lw_m4 149 rfl) rfl
theorem q394 : (Jvm.Cond.arrayOver (Jvm.ClassFile.FieldType.object "BoatsCalledIn$Node")) ∈ lw_tbl := lw_at lw_m2 85 rfl
set_option maxRecDepth 100000
theorem q569 : (Jvm.Cond.arrayClass Jvm.ClassFile.FieldType.byte) ∈ lw_all := lw_g (lw_at lw_m3 20 rfl) rfl
theorem q630 : (Jvm.Cond.arrayOver (Jvm.ClassFile.FieldType.object "BoatsCalledIn$Boat")) ∈ lw_tbl := lw_at lw_m3 81 rfl
theorem q712 : (Jvm.Cond.arrayClass Jvm.ClassFile.FieldType.int) ∈ lw_all := lw_g (lw_at lw_m3 163 rfl) rfl
theorem q714 : (Jvm.Cond.arrayOver (Jvm.ClassFile.FieldType.array (Jvm.ClassFile.FieldType.object "BoatsCalledIn$Node"))) ∈ lw_tbl := lw_at lw_m3 165 rfl
theorem q716 : (Jvm.Cond.arrayOver (Jvm.ClassFile.FieldType.object "java/lang/String")) ∈ lw_tbl := lw_at lw_m3 167 rfl
theorem q730 : (Jvm.Cond.arrayOver (Jvm.ClassFile.FieldType.array Jvm.ClassFile.FieldType.int)) ∈ lw_tbl := lw_at lw_m3 181 rfl
theorem q732 : (Jvm.Cond.arrayOver (Jvm.ClassFile.FieldType.object "BoatsCalledIn$Sheet")) ∈ lw_tbl := lw_at lw_m3 183 rfl
theorem q1075 : (Jvm.Cond.arrayClass Jvm.ClassFile.FieldType.short) ∈ lw_all := lw_g (lw_at lw_m5 46 rfl) rfl
