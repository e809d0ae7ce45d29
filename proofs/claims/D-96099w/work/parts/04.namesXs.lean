/-! BoatsCalledIn$Faulty -/
set_option maxRecDepth 100000
def RX1 : String := "BoatsCalledIn$Faulty"
def TX1 : u_T := fun k => match k with
  | 0 => ("java/lang/Throwable", "cause", "Ljava/lang/Throwable;", false)
  | 1 => ("java/lang/Throwable", "stackTrace", "[Ljava/lang/StackTraceElement;", false)
  | 2 => ("java/lang/Throwable", "suppressedExceptions", "Ljava/util/List;", false)
  | 3 => ("java/lang/Throwable", "detailMessage", "Ljava/lang/String;", false)
  | 4 => ("java/lang/Throwable", "backtrace", "Ljava/lang/Object;", false)
  | _ => ("java/lang/Throwable", "depth", "I", false)
def tyX1 : Nat → FieldType := fun k => match k with
  | 0 => .object "java/lang/Throwable"
  | 1 => .array (.object "java/lang/StackTraceElement")
  | 2 => .object "java/util/List"
  | 3 => .object "java/lang/String"
  | 4 => .object "java/lang/Object"
  | _ => .int
abbrev wsX10 : List Cond := u_ws RX1 TX1 6
theorem nmX1 : ∀ a, a < 6 → ∀ b, b < 6 → a ≠ b → (TX1 a).2.1 ≠ (TX1 b).2.1 := by decide +kernel
theorem tyX1_ok : ∀ k, k < 6 → parseFieldDescriptor (TX1 k).2.2.1 = some (tyX1 k) := by decide +kernel
abbrev cX1_init : ByteArray := prog_4_method_1_code
def yX1_init : MethodName := ⟨RX1, "<init>", "()V"⟩
def dkwX1_init_0 : List UInt8 := [42, 1, 1, 3, 3, 183, 0, 1, 177]
abbrev dktX1_init_0 : List UInt8 := dkwX1_init_0 ++ []
theorem dksX1_init_0 : cX1_init.data.toList.drop 0 = dktX1_init_0 := by decide +kernel
theorem dX1_init_0 : decode cX1_init 0 = .ok (.aload_n 0, 1) := dk_42 (dk_at dksX1_init_0 0 rfl rfl)
theorem dX1_init_1 : decode cX1_init 1 = .ok (.aconst_null, 1) := dk_1 (dk_at dksX1_init_0 1 rfl rfl)
theorem dX1_init_2 : decode cX1_init 2 = .ok (.aconst_null, 1) := dk_1 (dk_at dksX1_init_0 2 rfl rfl)
theorem dX1_init_3 : decode cX1_init 3 = .ok (.iconst 0, 1) := dk_3 (dk_at dksX1_init_0 3 rfl rfl)
theorem dX1_init_4 : decode cX1_init 4 = .ok (.iconst 0, 1) := dk_3 (dk_at dksX1_init_0 4 rfl rfl)
theorem dX1_init_5 : decode cX1_init 5 = .ok (.invokespecial 1, 3) := dk_183 0 1 (dk_at dksX1_init_0 5 rfl rfl)
theorem dX1_init_8 : decode cX1_init 8 = .ok (.return_, 1) := dk_177 (dk_at dksX1_init_0 8 rfl rfl)
theorem q74 : (Jvm.Cond.initialized "BoatsCalledIn$Faulty") ∈ lw_all := lw_g (lw_at lw_m1 5 rfl) rfl
theorem q631 : (Jvm.Cond.instantiable "BoatsCalledIn$Faulty" (6 : Nat)) ∈ lw_all := lw_g (lw_at lw_m3 82 rfl) rfl
theorem q632 : (Jvm.Cond.castable "BoatsCalledIn$Faulty" "BoatsCalledIn$Faulty") ∈ lw_tbl := lw_at lw_m3 83 rfl
theorem q639 : (Jvm.Cond.selects "BoatsCalledIn$Faulty" ({ cls := "java/lang/Throwable", name := "fillInStackTrace", desc := "(I)Ljava/lang/Throwable;" } : Jvm.MethodName) ({ cls := "java/lang/Throwable", name := "fillInStackTrace", desc := "(I)Ljava/lang/Throwable;" } : Jvm.MethodName)) ∈ lw_all := lw_g (lw_at lw_m3 90 rfl) rfl
theorem q640 : (Jvm.Cond.selects "BoatsCalledIn$Faulty" ({ cls := "java/lang/Throwable", name := "fillInStackTrace", desc := "()Ljava/lang/Throwable;" } : Jvm.MethodName) ({ cls := "java/lang/Throwable", name := "fillInStackTrace", desc := "()Ljava/lang/Throwable;" } : Jvm.MethodName)) ∈ lw_all := lw_g (lw_at lw_m3 91 rfl) rfl
theorem q641 : (Jvm.Cond.lays "BoatsCalledIn$Faulty" "java/lang/Throwable" "cause" "Ljava/lang/Throwable;") ∈ lw_all := lw_g (lw_at lw_m3 92 rfl) rfl
theorem q643 : (Jvm.Cond.lays "BoatsCalledIn$Faulty" "java/lang/Throwable" "stackTrace" "[Ljava/lang/StackTraceElement;") ∈ lw_all := lw_g (lw_at lw_m3 94 rfl) rfl
theorem q645 : (Jvm.Cond.lays "BoatsCalledIn$Faulty" "java/lang/Throwable" "suppressedExceptions" "Ljava/util/List;") ∈ lw_all := lw_g (lw_at lw_m3 96 rfl) rfl
theorem q647 : (Jvm.Cond.lays "BoatsCalledIn$Faulty" "java/lang/Throwable" "detailMessage" "Ljava/lang/String;") ∈ lw_all := lw_g (lw_at lw_m3 98 rfl) rfl
theorem q649 : (Jvm.Cond.lays "BoatsCalledIn$Faulty" "java/lang/Throwable" "backtrace" "Ljava/lang/Object;") ∈ lw_all := lw_g (lw_at lw_m3 100 rfl) rfl
theorem q688 : (Jvm.Cond.instanceMethod ({ cls := "BoatsCalledIn$Faulty", name := "<init>", desc := "()V" } : Jvm.MethodName)) ∈ lw_all := lw_g (lw_at lw_m3 139 rfl) rfl
theorem q689 : (Jvm.Cond.code ({ cls := "BoatsCalledIn$Faulty", name := "<init>", desc := "()V" } : Jvm.MethodName) prog_4_method_1_code (1 : Nat) (Option.none : Option Jvm.ClassFile.FieldType)) ∈ lw_all := lw_g (lw_at lw_m3 140 rfl) rfl
theorem q690 : (Jvm.Cond.methodLink "BoatsCalledIn$Faulty" (1 : Nat) ({ cls := "java/lang/RuntimeException", name := "<init>", desc := "(Ljava/lang/String;Ljava/lang/Throwable;ZZ)V" } : Jvm.MethodName)) ∈ lw_all := lw_g (lw_at lw_m3 141 rfl) rfl
theorem q708 : (Jvm.Cond.lays "BoatsCalledIn$Faulty" "java/lang/Throwable" "depth" "I") ∈ lw_all := lw_g (lw_at lw_m3 159 rfl) rfl
theorem q711 : (Jvm.Cond.superclass "BoatsCalledIn$Faulty" "java/lang/RuntimeException") ∈ lw_all := lw_g (lw_at lw_m3 162 rfl) rfl
theorem in_X1 : ∀ w ∈ wsX10, w ∈ lw_all := lw_in wsX10 [641, 643, 645, 647, 649, 708] (by decide +kernel) (by decide +kernel)
/-! BoatsCalledIn$Sheet -/
set_option maxRecDepth 100000
def RX2 : String := "BoatsCalledIn$Sheet"
def TX2 : u_T := fun k => match k with
  | _ => ("BoatsCalledIn$Sheet", "row", "Ljava/lang/Object;", false)
def tyX2 : Nat → FieldType := fun k => match k with
  | _ => .object "java/lang/Object"
abbrev wsX20 : List Cond := u_ws RX2 TX2 1
theorem nmX2 : ∀ a, a < 1 → ∀ b, b < 1 → a ≠ b → (TX2 a).2.1 ≠ (TX2 b).2.1 := by decide +kernel
theorem tyX2_ok : ∀ k, k < 1 → parseFieldDescriptor (TX2 k).2.2.1 = some (tyX2 k) := by decide +kernel
abbrev cX2_init : ByteArray := prog_11_method_1_code
def yX2_init : MethodName := ⟨RX2, "<init>", "()V"⟩
theorem dX2_init_0 : decode cX2_init 0 = .ok (.aload_n 0, 1) := by decide +kernel
theorem dX2_init_1 : decode cX2_init 1 = .ok (.invokespecial 1, 3) := by decide +kernel
theorem dX2_init_4 : decode cX2_init 4 = .ok (.return_, 1) := by decide +kernel
theorem q75 : (Jvm.Cond.initialized "BoatsCalledIn$Sheet") ∈ lw_all := lw_g (lw_at lw_m1 6 rfl) rfl
theorem q733 : (Jvm.Cond.instantiable "BoatsCalledIn$Sheet" (1 : Nat)) ∈ lw_all := lw_g (lw_at lw_m3 184 rfl) rfl
theorem q735 : (Jvm.Cond.instanceMethod ({ cls := "BoatsCalledIn$Sheet", name := "<init>", desc := "()V" } : Jvm.MethodName)) ∈ lw_all := lw_g (lw_at lw_m3 186 rfl) rfl
theorem q736 : (Jvm.Cond.code ({ cls := "BoatsCalledIn$Sheet", name := "<init>", desc := "()V" } : Jvm.MethodName) prog_11_method_1_code (1 : Nat) (Option.none : Option Jvm.ClassFile.FieldType)) ∈ lw_all := lw_g (lw_at lw_m3 187 rfl) rfl
theorem q737 : (Jvm.Cond.methodLink "BoatsCalledIn$Sheet" (1 : Nat) ({ cls := "java/lang/Object", name := "<init>", desc := "()V" } : Jvm.MethodName)) ∈ lw_all := lw_g (lw_at lw_m3 188 rfl) rfl
theorem q739 : (Jvm.Cond.lays "BoatsCalledIn$Sheet" "BoatsCalledIn$Sheet" "row" "Ljava/lang/Object;") ∈ lw_all := lw_g (lw_at lw_m3 190 rfl) rfl
theorem q740 : (Jvm.Cond.soleField "BoatsCalledIn$Sheet" "row") ∈ lw_all := lw_g (lw_at lw_m3 191 rfl) rfl
theorem q741 : (Jvm.Cond.superclass "BoatsCalledIn$Sheet" "java/lang/Object") ∈ lw_all := lw_g (lw_at lw_m3 192 rfl) rfl
theorem in_X2 : ∀ w ∈ wsX20, w ∈ lw_all := lw_in wsX20 [739] (by decide +kernel) (by decide +kernel)
/-! BoatsCalledIn$Node -/
set_option maxRecDepth 100000
def RX3 : String := "BoatsCalledIn$Node"
abbrev cX3_init : ByteArray := prog_8_method_1_code
def yX3_init : MethodName := ⟨RX3, "<init>", "()V"⟩
theorem dX3_init_0 : decode cX3_init 0 = .ok (.aload_n 0, 1) := by decide +kernel
theorem dX3_init_1 : decode cX3_init 1 = .ok (.invokespecial 1, 3) := by decide +kernel
theorem dX3_init_4 : decode cX3_init 4 = .ok (.return_, 1) := by decide +kernel
theorem q82 : (Jvm.Cond.initialized "BoatsCalledIn$Node") ∈ lw_all := lw_g (lw_at lw_m1 13 rfl) rfl
theorem q314 : (Jvm.Cond.declares ({ cls := "BoatsCalledIn$Node", name := "worth", desc := "()I" } : Jvm.MethodName)) ∈ lw_tbl := lw_at lw_m2 5 rfl
theorem q315 : (Jvm.Cond.sameMethod "BoatsCalledIn$Node" "BoatsCalledIn$Node" "worth" "()I") ∈ lw_all := lw_g (lw_at lw_m2 6 rfl) rfl
theorem q559 : (Jvm.Cond.instanceMethod ({ cls := "BoatsCalledIn$Node", name := "<init>", desc := "()V" } : Jvm.MethodName)) ∈ lw_all := lw_g (lw_at lw_m3 10 rfl) rfl
theorem q560 : (Jvm.Cond.code ({ cls := "BoatsCalledIn$Node", name := "<init>", desc := "()V" } : Jvm.MethodName) prog_8_method_1_code (1 : Nat) (Option.none : Option Jvm.ClassFile.FieldType)) ∈ lw_all := lw_g (lw_at lw_m3 11 rfl) rfl
theorem q561 : (Jvm.Cond.methodLink "BoatsCalledIn$Node" (1 : Nat) ({ cls := "java/lang/Object", name := "<init>", desc := "()V" } : Jvm.MethodName)) ∈ lw_all := lw_g (lw_at lw_m3 12 rfl) rfl
/-! BoatsCalledIn$Turned -/
set_option maxRecDepth 100000
def RX4 : String := "BoatsCalledIn$Turned"
def TX4 : u_T := fun k => match k with
  | 0 => ("BoatsCalledIn$Turned", "of", "LBoatsCalledIn$Node;", true)
  | _ => ("BoatsCalledIn$Turned", "isMinus", "Z", true)
def tyX4 : Nat → FieldType := fun k => match k with
  | 0 => .object "BoatsCalledIn$Node"
  | _ => .boolean
abbrev wsX40 : List Cond := u_ws RX4 TX4 2
theorem nmX4 : ∀ a, a < 2 → ∀ b, b < 2 → a ≠ b → (TX4 a).2.1 ≠ (TX4 b).2.1 := by decide +kernel
theorem tyX4_ok : ∀ k, k < 2 → parseFieldDescriptor (TX4 k).2.2.1 = some (tyX4 k) := by decide +kernel
abbrev cX4_worth : ByteArray := prog_13_method_2_code
def yX4_worth : MethodName := ⟨RX4, "worth", "()I"⟩
def dkwX4_worth_1 : List UInt8 := [4, 167, 0, 4, 3, 172]
abbrev dktX4_worth_1 : List UInt8 := dkwX4_worth_1 ++ []
def dkwX4_worth_0 : List UInt8 := [42, 180, 0, 7, 182, 0, 17, 60, 42, 180, 0, 13, 153, 0, 8, 27, 116, 167, 0, 12, 27, 154, 0, 7]
abbrev dktX4_worth_0 : List UInt8 := dkwX4_worth_0 ++ dktX4_worth_1
theorem dksX4_worth_0 : cX4_worth.data.toList.drop 0 = dktX4_worth_0 := by decide +kernel
theorem dksX4_worth_1 : cX4_worth.data.toList.drop 24 = dktX4_worth_1 := dk_seg dksX4_worth_0 24 rfl rfl
theorem dX4_worth_0 : decode cX4_worth 0 = .ok (.aload_n 0, 1) := dk_42 (dk_at dksX4_worth_0 0 rfl rfl)
theorem dX4_worth_1 : decode cX4_worth 1 = .ok (.getfield 7, 3) := dk_180 0 7 (dk_at dksX4_worth_0 1 rfl rfl)
theorem dX4_worth_4 : decode cX4_worth 4 = .ok (.invokevirtual 17, 3) := dk_182 0 17 (dk_at dksX4_worth_0 4 rfl rfl)
theorem dX4_worth_7 : decode cX4_worth 7 = .ok (.istore_n 1, 1) := dk_60 (dk_at dksX4_worth_0 7 rfl rfl)
theorem dX4_worth_8 : decode cX4_worth 8 = .ok (.aload_n 0, 1) := dk_42 (dk_at dksX4_worth_0 8 rfl rfl)
theorem dX4_worth_9 : decode cX4_worth 9 = .ok (.getfield 13, 3) := dk_180 0 13 (dk_at dksX4_worth_0 9 rfl rfl)
theorem dX4_worth_12 : decode cX4_worth 12 = .ok (.ifCond .eq 8, 3) := dk_153 0 8 (dk_at dksX4_worth_0 12 rfl rfl)
theorem dX4_worth_15 : decode cX4_worth 15 = .ok (.iload_n 1, 1) := dk_27 (dk_at dksX4_worth_0 15 rfl rfl)
theorem dX4_worth_16 : decode cX4_worth 16 = .ok (.ineg, 1) := dk_116 (dk_at dksX4_worth_0 16 rfl rfl)
theorem dX4_worth_17 : decode cX4_worth 17 = .ok (.goto 12, 3) := dk_167 0 12 (dk_at dksX4_worth_0 17 rfl rfl)
theorem dX4_worth_20 : decode cX4_worth 20 = .ok (.iload_n 1, 1) := dk_27 (dk_at dksX4_worth_0 20 rfl rfl)
theorem dX4_worth_21 : decode cX4_worth 21 = .ok (.ifCond .ne 7, 3) := dk_154 0 7 (dk_at dksX4_worth_0 21 rfl rfl)
theorem dX4_worth_24 : decode cX4_worth 24 = .ok (.iconst 1, 1) := dk_4 (dk_at dksX4_worth_1 0 rfl rfl)
theorem dX4_worth_25 : decode cX4_worth 25 = .ok (.goto 4, 3) := dk_167 0 4 (dk_at dksX4_worth_1 1 rfl rfl)
theorem dX4_worth_28 : decode cX4_worth 28 = .ok (.iconst 0, 1) := dk_3 (dk_at dksX4_worth_1 4 rfl rfl)
theorem dX4_worth_29 : decode cX4_worth 29 = .ok (.ireturn, 1) := dk_172 (dk_at dksX4_worth_1 5 rfl rfl)
abbrev cX4_init : ByteArray := prog_13_method_1_code
def yX4_init : MethodName := ⟨RX4, "<init>", "(LBoatsCalledIn$Node;Z)V"⟩
def dkwX4_init_0 : List UInt8 := [42, 183, 0, 1, 42, 43, 181, 0, 7, 42, 28, 181, 0, 13, 177]
abbrev dktX4_init_0 : List UInt8 := dkwX4_init_0 ++ []
theorem dksX4_init_0 : cX4_init.data.toList.drop 0 = dktX4_init_0 := by decide +kernel
theorem dX4_init_0 : decode cX4_init 0 = .ok (.aload_n 0, 1) := dk_42 (dk_at dksX4_init_0 0 rfl rfl)
theorem dX4_init_1 : decode cX4_init 1 = .ok (.invokespecial 1, 3) := dk_183 0 1 (dk_at dksX4_init_0 1 rfl rfl)
theorem dX4_init_4 : decode cX4_init 4 = .ok (.aload_n 0, 1) := dk_42 (dk_at dksX4_init_0 4 rfl rfl)
theorem dX4_init_5 : decode cX4_init 5 = .ok (.aload_n 1, 1) := dk_43 (dk_at dksX4_init_0 5 rfl rfl)
theorem dX4_init_6 : decode cX4_init 6 = .ok (.putfield 7, 3) := dk_181 0 7 (dk_at dksX4_init_0 6 rfl rfl)
theorem dX4_init_9 : decode cX4_init 9 = .ok (.aload_n 0, 1) := dk_42 (dk_at dksX4_init_0 9 rfl rfl)
theorem dX4_init_10 : decode cX4_init 10 = .ok (.iload_n 2, 1) := dk_28 (dk_at dksX4_init_0 10 rfl rfl)
theorem dX4_init_11 : decode cX4_init 11 = .ok (.putfield 13, 3) := dk_181 0 13 (dk_at dksX4_init_0 11 rfl rfl)
theorem dX4_init_14 : decode cX4_init 14 = .ok (.return_, 1) := dk_177 (dk_at dksX4_init_0 14 rfl rfl)
theorem q83 : (Jvm.Cond.initialized "BoatsCalledIn$Turned") ∈ lw_all := lw_g (lw_at lw_m1 14 rfl) rfl
theorem q331 : (Jvm.Cond.selects "BoatsCalledIn$Turned" ({ cls := "BoatsCalledIn$Node", name := "worth", desc := "()I" } : Jvm.MethodName) ({ cls := "BoatsCalledIn$Turned", name := "worth", desc := "()I" } : Jvm.MethodName)) ∈ lw_all := lw_g (lw_at lw_m2 22 rfl) rfl
theorem q332 : (Jvm.Cond.instanceMethod ({ cls := "BoatsCalledIn$Turned", name := "worth", desc := "()I" } : Jvm.MethodName)) ∈ lw_all := lw_g (lw_at lw_m2 23 rfl) rfl
theorem q333 : (Jvm.Cond.code ({ cls := "BoatsCalledIn$Turned", name := "worth", desc := "()I" } : Jvm.MethodName) prog_13_method_2_code (2 : Nat) (Option.some Jvm.ClassFile.FieldType.int)) ∈ lw_all := lw_g (lw_at lw_m2 24 rfl) rfl
theorem q334 : (Jvm.Cond.methodLink "BoatsCalledIn$Turned" (17 : Nat) ({ cls := "BoatsCalledIn$Node", name := "worth", desc := "()I" } : Jvm.MethodName)) ∈ lw_all := lw_g (lw_at lw_m2 25 rfl) rfl
theorem q554 : (Jvm.Cond.instantiable "BoatsCalledIn$Turned" (2 : Nat)) ∈ lw_all := lw_g (lw_at lw_m3 5 rfl) rfl
theorem q556 : (Jvm.Cond.instanceMethod ({ cls := "BoatsCalledIn$Turned", name := "<init>", desc := "(LBoatsCalledIn$Node;Z)V" } : Jvm.MethodName)) ∈ lw_all := lw_g (lw_at lw_m3 7 rfl) rfl
theorem q557 : (Jvm.Cond.code ({ cls := "BoatsCalledIn$Turned", name := "<init>", desc := "(LBoatsCalledIn$Node;Z)V" } : Jvm.MethodName) prog_13_method_1_code (3 : Nat) (Option.none : Option Jvm.ClassFile.FieldType)) ∈ lw_all := lw_g (lw_at lw_m3 8 rfl) rfl
theorem q558 : (Jvm.Cond.methodLinkNest "BoatsCalledIn$Turned" (1 : Nat) ({ cls := "BoatsCalledIn$Node", name := "<init>", desc := "()V" } : Jvm.MethodName) "BoatsCalledIn") ∈ lw_tbl := lw_at lw_m3 9 rfl
theorem q562 : (Jvm.Cond.fieldLink "BoatsCalledIn$Turned" (7 : Nat) "BoatsCalledIn$Turned" "of" "LBoatsCalledIn$Node;") ∈ lw_all := lw_g (lw_at lw_m3 13 rfl) rfl
theorem q563 : (Jvm.Cond.fieldLink "BoatsCalledIn$Turned" (13 : Nat) "BoatsCalledIn$Turned" "isMinus" "Z") ∈ lw_all := lw_g (lw_at lw_m3 14 rfl) rfl
theorem q564 : (Jvm.Cond.laysFinal "BoatsCalledIn$Turned" "BoatsCalledIn$Turned" "of" "LBoatsCalledIn$Node;") ∈ lw_all := lw_g (lw_at lw_m3 15 rfl) rfl
theorem q565 : (Jvm.Cond.soleField "BoatsCalledIn$Turned" "of") ∈ lw_all := lw_g (lw_at lw_m3 16 rfl) rfl
theorem q566 : (Jvm.Cond.laysFinal "BoatsCalledIn$Turned" "BoatsCalledIn$Turned" "isMinus" "Z") ∈ lw_all := lw_g (lw_at lw_m3 17 rfl) rfl
theorem q567 : (Jvm.Cond.soleField "BoatsCalledIn$Turned" "isMinus") ∈ lw_all := lw_g (lw_at lw_m3 18 rfl) rfl
theorem q568 : (Jvm.Cond.superclass "BoatsCalledIn$Turned" "BoatsCalledIn$Node") ∈ lw_all := lw_g (lw_at lw_m3 19 rfl) rfl
theorem q1554 : (Jvm.Cond.castable "BoatsCalledIn$Turned" "BoatsCalledIn$Node") ∈ lw_tbl := lw_at lw_m7 45 rfl
theorem in_X4 : ∀ w ∈ wsX40, w ∈ lw_all := lw_in wsX40 [564, 566] (by decide +kernel) (by decide +kernel)
/-! BoatsCalledIn$Number -/
set_option maxRecDepth 100000
def RX5 : String := "BoatsCalledIn$Number"
def TX5 : u_T := fun k => match k with
  | _ => ("BoatsCalledIn$Number", "v", "I", true)
def tyX5 : Nat → FieldType := fun k => match k with
  | _ => .int
abbrev wsX50 : List Cond := u_ws RX5 TX5 1
theorem nmX5 : ∀ a, a < 1 → ∀ b, b < 1 → a ≠ b → (TX5 a).2.1 ≠ (TX5 b).2.1 := by decide +kernel
theorem tyX5_ok : ∀ k, k < 1 → parseFieldDescriptor (TX5 k).2.2.1 = some (tyX5 k) := by decide +kernel
abbrev cX5_worth : ByteArray := prog_9_method_2_code
def yX5_worth : MethodName := ⟨RX5, "worth", "()I"⟩
theorem dX5_worth_0 : decode cX5_worth 0 = .ok (.aload_n 0, 1) := by decide +kernel
theorem dX5_worth_1 : decode cX5_worth 1 = .ok (.getfield 7, 3) := by decide +kernel
theorem dX5_worth_4 : decode cX5_worth 4 = .ok (.ireturn, 1) := by decide +kernel
abbrev cX5_init : ByteArray := prog_9_method_1_code
def yX5_init : MethodName := ⟨RX5, "<init>", "(I)V"⟩
def dkwX5_init_0 : List UInt8 := [42, 183, 0, 1, 42, 27, 181, 0, 7, 177]
abbrev dktX5_init_0 : List UInt8 := dkwX5_init_0 ++ []
theorem dksX5_init_0 : cX5_init.data.toList.drop 0 = dktX5_init_0 := by decide +kernel
theorem dX5_init_0 : decode cX5_init 0 = .ok (.aload_n 0, 1) := dk_42 (dk_at dksX5_init_0 0 rfl rfl)
theorem dX5_init_1 : decode cX5_init 1 = .ok (.invokespecial 1, 3) := dk_183 0 1 (dk_at dksX5_init_0 1 rfl rfl)
theorem dX5_init_4 : decode cX5_init 4 = .ok (.aload_n 0, 1) := dk_42 (dk_at dksX5_init_0 4 rfl rfl)
theorem dX5_init_5 : decode cX5_init 5 = .ok (.iload_n 1, 1) := dk_27 (dk_at dksX5_init_0 5 rfl rfl)
theorem dX5_init_6 : decode cX5_init 6 = .ok (.putfield 7, 3) := dk_181 0 7 (dk_at dksX5_init_0 6 rfl rfl)
theorem dX5_init_9 : decode cX5_init 9 = .ok (.return_, 1) := dk_177 (dk_at dksX5_init_0 9 rfl rfl)
theorem q84 : (Jvm.Cond.initialized "BoatsCalledIn$Number") ∈ lw_all := lw_g (lw_at lw_m1 15 rfl) rfl
theorem q328 : (Jvm.Cond.selects "BoatsCalledIn$Number" ({ cls := "BoatsCalledIn$Node", name := "worth", desc := "()I" } : Jvm.MethodName) ({ cls := "BoatsCalledIn$Number", name := "worth", desc := "()I" } : Jvm.MethodName)) ∈ lw_all := lw_g (lw_at lw_m2 19 rfl) rfl
theorem q329 : (Jvm.Cond.instanceMethod ({ cls := "BoatsCalledIn$Number", name := "worth", desc := "()I" } : Jvm.MethodName)) ∈ lw_all := lw_g (lw_at lw_m2 20 rfl) rfl
theorem q330 : (Jvm.Cond.code ({ cls := "BoatsCalledIn$Number", name := "worth", desc := "()I" } : Jvm.MethodName) prog_9_method_2_code (1 : Nat) (Option.some Jvm.ClassFile.FieldType.int)) ∈ lw_all := lw_g (lw_at lw_m2 21 rfl) rfl
theorem q583 : (Jvm.Cond.instantiable "BoatsCalledIn$Number" (1 : Nat)) ∈ lw_all := lw_g (lw_at lw_m3 34 rfl) rfl
theorem q585 : (Jvm.Cond.instanceMethod ({ cls := "BoatsCalledIn$Number", name := "<init>", desc := "(I)V" } : Jvm.MethodName)) ∈ lw_all := lw_g (lw_at lw_m3 36 rfl) rfl
theorem q586 : (Jvm.Cond.code ({ cls := "BoatsCalledIn$Number", name := "<init>", desc := "(I)V" } : Jvm.MethodName) prog_9_method_1_code (2 : Nat) (Option.none : Option Jvm.ClassFile.FieldType)) ∈ lw_all := lw_g (lw_at lw_m3 37 rfl) rfl
theorem q587 : (Jvm.Cond.methodLinkNest "BoatsCalledIn$Number" (1 : Nat) ({ cls := "BoatsCalledIn$Node", name := "<init>", desc := "()V" } : Jvm.MethodName) "BoatsCalledIn") ∈ lw_tbl := lw_at lw_m3 38 rfl
theorem q588 : (Jvm.Cond.fieldLink "BoatsCalledIn$Number" (7 : Nat) "BoatsCalledIn$Number" "v" "I") ∈ lw_all := lw_g (lw_at lw_m3 39 rfl) rfl
theorem q589 : (Jvm.Cond.laysFinal "BoatsCalledIn$Number" "BoatsCalledIn$Number" "v" "I") ∈ lw_all := lw_g (lw_at lw_m3 40 rfl) rfl
theorem q590 : (Jvm.Cond.soleField "BoatsCalledIn$Number" "v") ∈ lw_all := lw_g (lw_at lw_m3 41 rfl) rfl
theorem q591 : (Jvm.Cond.superclass "BoatsCalledIn$Number" "BoatsCalledIn$Node") ∈ lw_all := lw_g (lw_at lw_m3 42 rfl) rfl
theorem q1555 : (Jvm.Cond.castable "BoatsCalledIn$Number" "BoatsCalledIn$Node") ∈ lw_tbl := lw_at lw_m7 46 rfl
theorem in_X5 : ∀ w ∈ wsX50, w ∈ lw_all := lw_in wsX50 [589] (by decide +kernel) (by decide +kernel)
/-! BoatsCalledIn$Name -/
set_option maxRecDepth 100000
def RX6 : String := "BoatsCalledIn$Name"
def TX6 : u_T := fun k => match k with
  | 0 => ("BoatsCalledIn$Name", "which", "I", true)
  | _ => ("BoatsCalledIn$Name", "this$0", "LBoatsCalledIn;", true)
def tyX6 : Nat → FieldType := fun k => match k with
  | 0 => .int
  | _ => .object "BoatsCalledIn"
abbrev wsX60 : List Cond := u_ws RX6 TX6 2
theorem nmX6 : ∀ a, a < 2 → ∀ b, b < 2 → a ≠ b → (TX6 a).2.1 ≠ (TX6 b).2.1 := by decide +kernel
theorem tyX6_ok : ∀ k, k < 2 → parseFieldDescriptor (TX6 k).2.2.1 = some (tyX6 k) := by decide +kernel
abbrev cX6_worth : ByteArray := prog_7_method_2_code
def yX6_worth : MethodName := ⟨RX6, "worth", "()I"⟩
def dkwX6_worth_6 : List UInt8 := [180, 0, 33, 172]
abbrev dktX6_worth_6 : List UInt8 := dkwX6_worth_6 ++ []
def dkwX6_worth_5 : List UInt8 := [182, 0, 40, 153, 0, 7, 4, 167, 0, 4, 3, 172, 42, 180, 0, 1, 180, 0, 23, 172, 42, 180, 0, 1]
abbrev dktX6_worth_5 : List UInt8 := dkwX6_worth_5 ++ dktX6_worth_6
def dkwX6_worth_4 : List UInt8 := [182, 0, 36, 100, 172, 42, 180, 0, 1, 42, 180, 0, 1, 180, 0, 17, 42, 180, 0, 1, 180, 0, 23, 46]
abbrev dktX6_worth_4 : List UInt8 := dkwX6_worth_4 ++ dktX6_worth_5
def dkwX6_worth_3 : List UInt8 := [180, 0, 30, 4, 46, 172, 42, 180, 0, 1, 180, 0, 33, 42, 180, 0, 1, 42, 180, 0, 1, 180, 0, 23]
abbrev dktX6_worth_3 : List UInt8 := dkwX6_worth_3 ++ dktX6_worth_4
def dkwX6_worth_2 : List UInt8 := [42, 180, 0, 1, 180, 0, 17, 42, 180, 0, 1, 180, 0, 23, 46, 3, 184, 0, 26, 172, 42, 180, 0, 1]
abbrev dktX6_worth_2 : List UInt8 := dkwX6_worth_2 ++ dktX6_worth_3
def dkwX6_worth_1 : List UInt8 := [170, 0, 0, 0, 0, 0, 0, 128, 0, 0, 0, 0, 0, 0, 0, 4, 0, 0, 0, 36, 0, 0, 0, 56, 0, 0, 0, 66, 0, 0, 0, 89, 0, 0, 0, 120]
abbrev dktX6_worth_1 : List UInt8 := dkwX6_worth_1 ++ dktX6_worth_2
def dkwX6_worth_0 : List UInt8 := [42, 180, 0, 13]
abbrev dktX6_worth_0 : List UInt8 := dkwX6_worth_0 ++ dktX6_worth_1
theorem dksX6_worth_0 : cX6_worth.data.toList.drop 0 = dktX6_worth_0 := by decide +kernel
theorem dksX6_worth_1 : cX6_worth.data.toList.drop 4 = dktX6_worth_1 := dk_seg dksX6_worth_0 4 rfl rfl
theorem dksX6_worth_2 : cX6_worth.data.toList.drop 40 = dktX6_worth_2 := dk_seg dksX6_worth_1 36 rfl rfl
theorem dksX6_worth_3 : cX6_worth.data.toList.drop 64 = dktX6_worth_3 := dk_seg dksX6_worth_2 24 rfl rfl
theorem dksX6_worth_4 : cX6_worth.data.toList.drop 88 = dktX6_worth_4 := dk_seg dksX6_worth_3 24 rfl rfl
theorem dksX6_worth_5 : cX6_worth.data.toList.drop 112 = dktX6_worth_5 := dk_seg dksX6_worth_4 24 rfl rfl
theorem dksX6_worth_6 : cX6_worth.data.toList.drop 136 = dktX6_worth_6 := dk_seg dksX6_worth_5 24 rfl rfl
theorem dX6_worth_0 : decode cX6_worth 0 = .ok (.aload_n 0, 1) := dk_42 (dk_at dksX6_worth_0 0 rfl rfl)
theorem dX6_worth_1 : decode cX6_worth 1 = .ok (.getfield 13, 3) := dk_180 0 13 (dk_at dksX6_worth_0 1 rfl rfl)
theorem dX6_worth_4 : decode cX6_worth 4 = .ok (.tableswitch 128 0 4 #[36, 56, 66, 89, 120], 36) := by decide +kernel
theorem dX6_worth_40 : decode cX6_worth 40 = .ok (.aload_n 0, 1) := dk_42 (dk_at dksX6_worth_2 0 rfl rfl)
theorem dX6_worth_41 : decode cX6_worth 41 = .ok (.getfield 1, 3) := dk_180 0 1 (dk_at dksX6_worth_2 1 rfl rfl)
theorem dX6_worth_44 : decode cX6_worth 44 = .ok (.getfield 17, 3) := dk_180 0 17 (dk_at dksX6_worth_2 4 rfl rfl)
theorem dX6_worth_47 : decode cX6_worth 47 = .ok (.aload_n 0, 1) := dk_42 (dk_at dksX6_worth_2 7 rfl rfl)
theorem dX6_worth_48 : decode cX6_worth 48 = .ok (.getfield 1, 3) := dk_180 0 1 (dk_at dksX6_worth_2 8 rfl rfl)
theorem dX6_worth_51 : decode cX6_worth 51 = .ok (.getfield 23, 3) := dk_180 0 23 (dk_at dksX6_worth_2 11 rfl rfl)
theorem dX6_worth_54 : decode cX6_worth 54 = .ok (.iaload, 1) := dk_46 (dk_at dksX6_worth_2 14 rfl rfl)
theorem dX6_worth_55 : decode cX6_worth 55 = .ok (.iconst 0, 1) := dk_3 (dk_at dksX6_worth_2 15 rfl rfl)
theorem dX6_worth_56 : decode cX6_worth 56 = .ok (.invokestatic 26, 3) := dk_184 0 26 (dk_at dksX6_worth_2 16 rfl rfl)
theorem dX6_worth_59 : decode cX6_worth 59 = .ok (.ireturn, 1) := dk_172 (dk_at dksX6_worth_2 19 rfl rfl)
theorem dX6_worth_60 : decode cX6_worth 60 = .ok (.aload_n 0, 1) := dk_42 (dk_at dksX6_worth_2 20 rfl rfl)
theorem dX6_worth_61 : decode cX6_worth 61 = .ok (.getfield 1, 3) := dk_180 0 1 (dk_at dksX6_worth_2 21 rfl rfl)
theorem dX6_worth_64 : decode cX6_worth 64 = .ok (.getfield 30, 3) := dk_180 0 30 (dk_at dksX6_worth_3 0 rfl rfl)
theorem dX6_worth_67 : decode cX6_worth 67 = .ok (.iconst 1, 1) := dk_4 (dk_at dksX6_worth_3 3 rfl rfl)
theorem dX6_worth_68 : decode cX6_worth 68 = .ok (.iaload, 1) := dk_46 (dk_at dksX6_worth_3 4 rfl rfl)
theorem dX6_worth_69 : decode cX6_worth 69 = .ok (.ireturn, 1) := dk_172 (dk_at dksX6_worth_3 5 rfl rfl)
theorem dX6_worth_70 : decode cX6_worth 70 = .ok (.aload_n 0, 1) := dk_42 (dk_at dksX6_worth_3 6 rfl rfl)
theorem dX6_worth_71 : decode cX6_worth 71 = .ok (.getfield 1, 3) := dk_180 0 1 (dk_at dksX6_worth_3 7 rfl rfl)
theorem dX6_worth_74 : decode cX6_worth 74 = .ok (.getfield 33, 3) := dk_180 0 33 (dk_at dksX6_worth_3 10 rfl rfl)
theorem dX6_worth_77 : decode cX6_worth 77 = .ok (.aload_n 0, 1) := dk_42 (dk_at dksX6_worth_3 13 rfl rfl)
theorem dX6_worth_78 : decode cX6_worth 78 = .ok (.getfield 1, 3) := dk_180 0 1 (dk_at dksX6_worth_3 14 rfl rfl)
theorem dX6_worth_81 : decode cX6_worth 81 = .ok (.aload_n 0, 1) := dk_42 (dk_at dksX6_worth_3 17 rfl rfl)
theorem dX6_worth_82 : decode cX6_worth 82 = .ok (.getfield 1, 3) := dk_180 0 1 (dk_at dksX6_worth_3 18 rfl rfl)
theorem dX6_worth_85 : decode cX6_worth 85 = .ok (.getfield 23, 3) := dk_180 0 23 (dk_at dksX6_worth_3 21 rfl rfl)
theorem dX6_worth_88 : decode cX6_worth 88 = .ok (.invokevirtual 36, 3) := dk_182 0 36 (dk_at dksX6_worth_4 0 rfl rfl)
theorem dX6_worth_91 : decode cX6_worth 91 = .ok (.isub, 1) := dk_100 (dk_at dksX6_worth_4 3 rfl rfl)
theorem dX6_worth_92 : decode cX6_worth 92 = .ok (.ireturn, 1) := dk_172 (dk_at dksX6_worth_4 4 rfl rfl)
theorem dX6_worth_93 : decode cX6_worth 93 = .ok (.aload_n 0, 1) := dk_42 (dk_at dksX6_worth_4 5 rfl rfl)
theorem dX6_worth_94 : decode cX6_worth 94 = .ok (.getfield 1, 3) := dk_180 0 1 (dk_at dksX6_worth_4 6 rfl rfl)
theorem dX6_worth_97 : decode cX6_worth 97 = .ok (.aload_n 0, 1) := dk_42 (dk_at dksX6_worth_4 9 rfl rfl)
theorem dX6_worth_98 : decode cX6_worth 98 = .ok (.getfield 1, 3) := dk_180 0 1 (dk_at dksX6_worth_4 10 rfl rfl)
theorem dX6_worth_101 : decode cX6_worth 101 = .ok (.getfield 17, 3) := dk_180 0 17 (dk_at dksX6_worth_4 13 rfl rfl)
theorem dX6_worth_104 : decode cX6_worth 104 = .ok (.aload_n 0, 1) := dk_42 (dk_at dksX6_worth_4 16 rfl rfl)
theorem dX6_worth_105 : decode cX6_worth 105 = .ok (.getfield 1, 3) := dk_180 0 1 (dk_at dksX6_worth_4 17 rfl rfl)
theorem dX6_worth_108 : decode cX6_worth 108 = .ok (.getfield 23, 3) := dk_180 0 23 (dk_at dksX6_worth_4 20 rfl rfl)
theorem dX6_worth_111 : decode cX6_worth 111 = .ok (.iaload, 1) := dk_46 (dk_at dksX6_worth_4 23 rfl rfl)
theorem dX6_worth_112 : decode cX6_worth 112 = .ok (.invokevirtual 40, 3) := dk_182 0 40 (dk_at dksX6_worth_5 0 rfl rfl)
theorem dX6_worth_115 : decode cX6_worth 115 = .ok (.ifCond .eq 7, 3) := dk_153 0 7 (dk_at dksX6_worth_5 3 rfl rfl)
theorem dX6_worth_118 : decode cX6_worth 118 = .ok (.iconst 1, 1) := dk_4 (dk_at dksX6_worth_5 6 rfl rfl)
theorem dX6_worth_119 : decode cX6_worth 119 = .ok (.goto 4, 3) := dk_167 0 4 (dk_at dksX6_worth_5 7 rfl rfl)
theorem dX6_worth_122 : decode cX6_worth 122 = .ok (.iconst 0, 1) := dk_3 (dk_at dksX6_worth_5 10 rfl rfl)
theorem dX6_worth_123 : decode cX6_worth 123 = .ok (.ireturn, 1) := dk_172 (dk_at dksX6_worth_5 11 rfl rfl)
theorem dX6_worth_124 : decode cX6_worth 124 = .ok (.aload_n 0, 1) := dk_42 (dk_at dksX6_worth_5 12 rfl rfl)
theorem dX6_worth_125 : decode cX6_worth 125 = .ok (.getfield 1, 3) := dk_180 0 1 (dk_at dksX6_worth_5 13 rfl rfl)
theorem dX6_worth_128 : decode cX6_worth 128 = .ok (.getfield 23, 3) := dk_180 0 23 (dk_at dksX6_worth_5 16 rfl rfl)
theorem dX6_worth_131 : decode cX6_worth 131 = .ok (.ireturn, 1) := dk_172 (dk_at dksX6_worth_5 19 rfl rfl)
theorem dX6_worth_132 : decode cX6_worth 132 = .ok (.aload_n 0, 1) := dk_42 (dk_at dksX6_worth_5 20 rfl rfl)
theorem dX6_worth_133 : decode cX6_worth 133 = .ok (.getfield 1, 3) := dk_180 0 1 (dk_at dksX6_worth_5 21 rfl rfl)
theorem dX6_worth_136 : decode cX6_worth 136 = .ok (.getfield 33, 3) := dk_180 0 33 (dk_at dksX6_worth_6 0 rfl rfl)
theorem dX6_worth_139 : decode cX6_worth 139 = .ok (.ireturn, 1) := dk_172 (dk_at dksX6_worth_6 3 rfl rfl)
abbrev cX6_init : ByteArray := prog_7_method_1_code
def yX6_init : MethodName := ⟨RX6, "<init>", "(LBoatsCalledIn;I)V"⟩
def dkwX6_init_0 : List UInt8 := [42, 43, 181, 0, 1, 42, 183, 0, 7, 42, 28, 181, 0, 13, 177]
abbrev dktX6_init_0 : List UInt8 := dkwX6_init_0 ++ []
theorem dksX6_init_0 : cX6_init.data.toList.drop 0 = dktX6_init_0 := by decide +kernel
theorem dX6_init_0 : decode cX6_init 0 = .ok (.aload_n 0, 1) := dk_42 (dk_at dksX6_init_0 0 rfl rfl)
theorem dX6_init_1 : decode cX6_init 1 = .ok (.aload_n 1, 1) := dk_43 (dk_at dksX6_init_0 1 rfl rfl)
theorem dX6_init_2 : decode cX6_init 2 = .ok (.putfield 1, 3) := dk_181 0 1 (dk_at dksX6_init_0 2 rfl rfl)
theorem dX6_init_5 : decode cX6_init 5 = .ok (.aload_n 0, 1) := dk_42 (dk_at dksX6_init_0 5 rfl rfl)
theorem dX6_init_6 : decode cX6_init 6 = .ok (.invokespecial 7, 3) := dk_183 0 7 (dk_at dksX6_init_0 6 rfl rfl)
theorem dX6_init_9 : decode cX6_init 9 = .ok (.aload_n 0, 1) := dk_42 (dk_at dksX6_init_0 9 rfl rfl)
theorem dX6_init_10 : decode cX6_init 10 = .ok (.iload_n 2, 1) := dk_28 (dk_at dksX6_init_0 10 rfl rfl)
theorem dX6_init_11 : decode cX6_init 11 = .ok (.putfield 13, 3) := dk_181 0 13 (dk_at dksX6_init_0 11 rfl rfl)
theorem dX6_init_14 : decode cX6_init 14 = .ok (.return_, 1) := dk_177 (dk_at dksX6_init_0 14 rfl rfl)
theorem q85 : (Jvm.Cond.initialized "BoatsCalledIn$Name") ∈ lw_all := lw_g (lw_at lw_m1 16 rfl) rfl
theorem q316 : (Jvm.Cond.selects "BoatsCalledIn$Name" ({ cls := "BoatsCalledIn$Node", name := "worth", desc := "()I" } : Jvm.MethodName) ({ cls := "BoatsCalledIn$Name", name := "worth", desc := "()I" } : Jvm.MethodName)) ∈ lw_all := lw_g (lw_at lw_m2 7 rfl) rfl
theorem q317 : (Jvm.Cond.instanceMethod ({ cls := "BoatsCalledIn$Name", name := "worth", desc := "()I" } : Jvm.MethodName)) ∈ lw_all := lw_g (lw_at lw_m2 8 rfl) rfl
theorem q318 : (Jvm.Cond.code ({ cls := "BoatsCalledIn$Name", name := "worth", desc := "()I" } : Jvm.MethodName) prog_7_method_2_code (1 : Nat) (Option.some Jvm.ClassFile.FieldType.int)) ∈ lw_all := lw_g (lw_at lw_m2 9 rfl) rfl
theorem q319 : (Jvm.Cond.methodLinkNest "BoatsCalledIn$Name" (26 : Nat) ({ cls := "BoatsCalledIn", name := "far", desc := "(II)I" } : Jvm.MethodName) "BoatsCalledIn") ∈ lw_tbl := lw_at lw_m2 10 rfl
theorem q320 : (Jvm.Cond.methodLinkNest "BoatsCalledIn$Name" (36 : Nat) ({ cls := "BoatsCalledIn", name := "due", desc := "(I)I" } : Jvm.MethodName) "BoatsCalledIn") ∈ lw_tbl := lw_at lw_m2 11 rfl
theorem q324 : (Jvm.Cond.methodLinkNest "BoatsCalledIn$Name" (40 : Nat) ({ cls := "BoatsCalledIn", name := "isHidden", desc := "(I)Z" } : Jvm.MethodName) "BoatsCalledIn") ∈ lw_tbl := lw_at lw_m2 15 rfl
theorem q593 : (Jvm.Cond.instantiable "BoatsCalledIn$Name" (2 : Nat)) ∈ lw_all := lw_g (lw_at lw_m3 44 rfl) rfl
theorem q595 : (Jvm.Cond.instanceMethod ({ cls := "BoatsCalledIn$Name", name := "<init>", desc := "(LBoatsCalledIn;I)V" } : Jvm.MethodName)) ∈ lw_all := lw_g (lw_at lw_m3 46 rfl) rfl
theorem q596 : (Jvm.Cond.code ({ cls := "BoatsCalledIn$Name", name := "<init>", desc := "(LBoatsCalledIn;I)V" } : Jvm.MethodName) prog_7_method_1_code (3 : Nat) (Option.none : Option Jvm.ClassFile.FieldType)) ∈ lw_all := lw_g (lw_at lw_m3 47 rfl) rfl
theorem q597 : (Jvm.Cond.methodLinkNest "BoatsCalledIn$Name" (7 : Nat) ({ cls := "BoatsCalledIn$Node", name := "<init>", desc := "()V" } : Jvm.MethodName) "BoatsCalledIn") ∈ lw_tbl := lw_at lw_m3 48 rfl
theorem q598 : (Jvm.Cond.fieldLink "BoatsCalledIn$Name" (13 : Nat) "BoatsCalledIn$Name" "which" "I") ∈ lw_all := lw_g (lw_at lw_m3 49 rfl) rfl
theorem q599 : (Jvm.Cond.fieldLink "BoatsCalledIn$Name" (1 : Nat) "BoatsCalledIn$Name" "this$0" "LBoatsCalledIn;") ∈ lw_all := lw_g (lw_at lw_m3 50 rfl) rfl
theorem q600 : (Jvm.Cond.laysFinal "BoatsCalledIn$Name" "BoatsCalledIn$Name" "which" "I") ∈ lw_all := lw_g (lw_at lw_m3 51 rfl) rfl
theorem q601 : (Jvm.Cond.soleField "BoatsCalledIn$Name" "which") ∈ lw_all := lw_g (lw_at lw_m3 52 rfl) rfl
theorem q602 : (Jvm.Cond.laysFinal "BoatsCalledIn$Name" "BoatsCalledIn$Name" "this$0" "LBoatsCalledIn;") ∈ lw_all := lw_g (lw_at lw_m3 53 rfl) rfl
theorem q603 : (Jvm.Cond.soleField "BoatsCalledIn$Name" "this$0") ∈ lw_all := lw_g (lw_at lw_m3 54 rfl) rfl
theorem q604 : (Jvm.Cond.superclass "BoatsCalledIn$Name" "BoatsCalledIn$Node") ∈ lw_all := lw_g (lw_at lw_m3 55 rfl) rfl
theorem q748 : (Jvm.Cond.fieldLinkNest "BoatsCalledIn$Name" (17 : Nat) "BoatsCalledIn" "places" "[I" "BoatsCalledIn") ∈ lw_tbl := lw_at lw_m3 199 rfl
theorem q755 : (Jvm.Cond.fieldLinkNest "BoatsCalledIn$Name" (30 : Nat) "BoatsCalledIn" "lake" "[I" "BoatsCalledIn") ∈ lw_tbl := lw_at lw_m3 206 rfl
theorem q757 : (Jvm.Cond.fieldLinkNest "BoatsCalledIn$Name" (33 : Nat) "BoatsCalledIn" "minute" "I" "BoatsCalledIn") ∈ lw_tbl := lw_at lw_m3 208 rfl
theorem q761 : (Jvm.Cond.fieldLinkNest "BoatsCalledIn$Name" (23 : Nat) "BoatsCalledIn" "forBoat" "I" "BoatsCalledIn") ∈ lw_tbl := lw_at lw_m3 212 rfl
theorem q1556 : (Jvm.Cond.castable "BoatsCalledIn$Name" "BoatsCalledIn$Node") ∈ lw_tbl := lw_at lw_m7 47 rfl
theorem in_X6 : ∀ w ∈ wsX60, w ∈ lw_all := lw_in wsX60 [600, 602] (by decide +kernel) (by decide +kernel)
/-! BoatsCalledIn$Two -/
set_option maxRecDepth 100000
def RX7 : String := "BoatsCalledIn$Two"
def TX7 : u_T := fun k => match k with
  | 0 => ("BoatsCalledIn$Two", "sign", "I", true)
  | 1 => ("BoatsCalledIn$Two", "a", "LBoatsCalledIn$Node;", true)
  | _ => ("BoatsCalledIn$Two", "b", "LBoatsCalledIn$Node;", true)
def tyX7 : Nat → FieldType := fun k => match k with
  | 0 => .int
  | 1 => .object "BoatsCalledIn$Node"
  | _ => .object "BoatsCalledIn$Node"
abbrev wsX70 : List Cond := u_ws RX7 TX7 3
theorem nmX7 : ∀ a, a < 3 → ∀ b, b < 3 → a ≠ b → (TX7 a).2.1 ≠ (TX7 b).2.1 := by decide +kernel
theorem tyX7_ok : ∀ k, k < 3 → parseFieldDescriptor (TX7 k).2.2.1 = some (tyX7 k) := by decide +kernel
abbrev cX7_worth : ByteArray := prog_14_method_2_code
def yX7_worth : MethodName := ⟨RX7, "worth", "()I"⟩
def dkwX7_worth_4 : List UInt8 := [27, 154, 0, 7, 28, 153, 0, 7, 4, 167, 0, 4, 3, 172]
abbrev dktX7_worth_4 : List UInt8 := dkwX7_worth_4 ++ []
def dkwX7_worth_3 : List UInt8 := [28, 160, 0, 7, 4, 167, 0, 4, 3, 172, 27, 153, 0, 11, 28, 153, 0, 7, 4, 167, 0, 4, 3, 172]
abbrev dktX7_worth_3 : List UInt8 := dkwX7_worth_3 ++ dktX7_worth_4
def dkwX7_worth_2 : List UInt8 := [27, 28, 96, 172, 27, 28, 100, 172, 27, 28, 104, 172, 27, 28, 162, 0, 7, 4, 167, 0, 4, 3, 172, 27]
abbrev dktX7_worth_2 : List UInt8 := dkwX7_worth_2 ++ dktX7_worth_3
def dkwX7_worth_1 : List UInt8 := [171, 0, 0, 0, 0, 0, 0, 108, 0, 0, 0, 6, 0, 0, 0, 38, 0, 0, 0, 94, 0, 0, 0, 42, 0, 0, 0, 68, 0, 0, 0, 43, 0, 0, 0, 60, 0, 0, 0, 45, 0, 0, 0, 64, 0, 0, 0, 60, 0, 0, 0, 72, 0, 0, 0, 61, 0, 0, 0, 83]
abbrev dktX7_worth_1 : List UInt8 := dkwX7_worth_1 ++ dktX7_worth_2
def dkwX7_worth_0 : List UInt8 := [42, 180, 0, 13, 182, 0, 20, 60, 42, 180, 0, 17, 182, 0, 20, 61, 42, 180, 0, 7]
abbrev dktX7_worth_0 : List UInt8 := dkwX7_worth_0 ++ dktX7_worth_1
theorem dksX7_worth_0 : cX7_worth.data.toList.drop 0 = dktX7_worth_0 := by decide +kernel
theorem dksX7_worth_1 : cX7_worth.data.toList.drop 20 = dktX7_worth_1 := dk_seg dksX7_worth_0 20 rfl rfl
theorem dksX7_worth_2 : cX7_worth.data.toList.drop 80 = dktX7_worth_2 := dk_seg dksX7_worth_1 60 rfl rfl
theorem dksX7_worth_3 : cX7_worth.data.toList.drop 104 = dktX7_worth_3 := dk_seg dksX7_worth_2 24 rfl rfl
theorem dksX7_worth_4 : cX7_worth.data.toList.drop 128 = dktX7_worth_4 := dk_seg dksX7_worth_3 24 rfl rfl
theorem dX7_worth_0 : decode cX7_worth 0 = .ok (.aload_n 0, 1) := dk_42 (dk_at dksX7_worth_0 0 rfl rfl)
theorem dX7_worth_1 : decode cX7_worth 1 = .ok (.getfield 13, 3) := dk_180 0 13 (dk_at dksX7_worth_0 1 rfl rfl)
theorem dX7_worth_4 : decode cX7_worth 4 = .ok (.invokevirtual 20, 3) := dk_182 0 20 (dk_at dksX7_worth_0 4 rfl rfl)
theorem dX7_worth_7 : decode cX7_worth 7 = .ok (.istore_n 1, 1) := dk_60 (dk_at dksX7_worth_0 7 rfl rfl)
theorem dX7_worth_8 : decode cX7_worth 8 = .ok (.aload_n 0, 1) := dk_42 (dk_at dksX7_worth_0 8 rfl rfl)
theorem dX7_worth_9 : decode cX7_worth 9 = .ok (.getfield 17, 3) := dk_180 0 17 (dk_at dksX7_worth_0 9 rfl rfl)
theorem dX7_worth_12 : decode cX7_worth 12 = .ok (.invokevirtual 20, 3) := dk_182 0 20 (dk_at dksX7_worth_0 12 rfl rfl)
theorem dX7_worth_15 : decode cX7_worth 15 = .ok (.istore_n 2, 1) := dk_61 (dk_at dksX7_worth_0 15 rfl rfl)
theorem dX7_worth_16 : decode cX7_worth 16 = .ok (.aload_n 0, 1) := dk_42 (dk_at dksX7_worth_0 16 rfl rfl)
theorem dX7_worth_17 : decode cX7_worth 17 = .ok (.getfield 7, 3) := dk_180 0 7 (dk_at dksX7_worth_0 17 rfl rfl)
theorem dX7_worth_20 : decode cX7_worth 20 = .ok (.lookupswitch 108 #[(38, 94), (42, 68), (43, 60), (45, 64), (60, 72), (61, 83)], 60) := by decide +kernel
theorem dX7_worth_80 : decode cX7_worth 80 = .ok (.iload_n 1, 1) := dk_27 (dk_at dksX7_worth_2 0 rfl rfl)
theorem dX7_worth_81 : decode cX7_worth 81 = .ok (.iload_n 2, 1) := dk_28 (dk_at dksX7_worth_2 1 rfl rfl)
theorem dX7_worth_82 : decode cX7_worth 82 = .ok (.iadd, 1) := dk_96 (dk_at dksX7_worth_2 2 rfl rfl)
theorem dX7_worth_83 : decode cX7_worth 83 = .ok (.ireturn, 1) := dk_172 (dk_at dksX7_worth_2 3 rfl rfl)
theorem dX7_worth_84 : decode cX7_worth 84 = .ok (.iload_n 1, 1) := dk_27 (dk_at dksX7_worth_2 4 rfl rfl)
theorem dX7_worth_85 : decode cX7_worth 85 = .ok (.iload_n 2, 1) := dk_28 (dk_at dksX7_worth_2 5 rfl rfl)
theorem dX7_worth_86 : decode cX7_worth 86 = .ok (.isub, 1) := dk_100 (dk_at dksX7_worth_2 6 rfl rfl)
theorem dX7_worth_87 : decode cX7_worth 87 = .ok (.ireturn, 1) := dk_172 (dk_at dksX7_worth_2 7 rfl rfl)
theorem dX7_worth_88 : decode cX7_worth 88 = .ok (.iload_n 1, 1) := dk_27 (dk_at dksX7_worth_2 8 rfl rfl)
theorem dX7_worth_89 : decode cX7_worth 89 = .ok (.iload_n 2, 1) := dk_28 (dk_at dksX7_worth_2 9 rfl rfl)
theorem dX7_worth_90 : decode cX7_worth 90 = .ok (.imul, 1) := dk_104 (dk_at dksX7_worth_2 10 rfl rfl)
theorem dX7_worth_91 : decode cX7_worth 91 = .ok (.ireturn, 1) := dk_172 (dk_at dksX7_worth_2 11 rfl rfl)
theorem dX7_worth_92 : decode cX7_worth 92 = .ok (.iload_n 1, 1) := dk_27 (dk_at dksX7_worth_2 12 rfl rfl)
theorem dX7_worth_93 : decode cX7_worth 93 = .ok (.iload_n 2, 1) := dk_28 (dk_at dksX7_worth_2 13 rfl rfl)
theorem dX7_worth_94 : decode cX7_worth 94 = .ok (.if_icmp .ge 7, 3) := dk_162 0 7 (dk_at dksX7_worth_2 14 rfl rfl)
theorem dX7_worth_97 : decode cX7_worth 97 = .ok (.iconst 1, 1) := dk_4 (dk_at dksX7_worth_2 17 rfl rfl)
theorem dX7_worth_98 : decode cX7_worth 98 = .ok (.goto 4, 3) := dk_167 0 4 (dk_at dksX7_worth_2 18 rfl rfl)
theorem dX7_worth_101 : decode cX7_worth 101 = .ok (.iconst 0, 1) := dk_3 (dk_at dksX7_worth_2 21 rfl rfl)
theorem dX7_worth_102 : decode cX7_worth 102 = .ok (.ireturn, 1) := dk_172 (dk_at dksX7_worth_2 22 rfl rfl)
theorem dX7_worth_103 : decode cX7_worth 103 = .ok (.iload_n 1, 1) := dk_27 (dk_at dksX7_worth_2 23 rfl rfl)
theorem dX7_worth_104 : decode cX7_worth 104 = .ok (.iload_n 2, 1) := dk_28 (dk_at dksX7_worth_3 0 rfl rfl)
theorem dX7_worth_105 : decode cX7_worth 105 = .ok (.if_icmp .ne 7, 3) := dk_160 0 7 (dk_at dksX7_worth_3 1 rfl rfl)
theorem dX7_worth_108 : decode cX7_worth 108 = .ok (.iconst 1, 1) := dk_4 (dk_at dksX7_worth_3 4 rfl rfl)
theorem dX7_worth_109 : decode cX7_worth 109 = .ok (.goto 4, 3) := dk_167 0 4 (dk_at dksX7_worth_3 5 rfl rfl)
theorem dX7_worth_112 : decode cX7_worth 112 = .ok (.iconst 0, 1) := dk_3 (dk_at dksX7_worth_3 8 rfl rfl)
theorem dX7_worth_113 : decode cX7_worth 113 = .ok (.ireturn, 1) := dk_172 (dk_at dksX7_worth_3 9 rfl rfl)
theorem dX7_worth_114 : decode cX7_worth 114 = .ok (.iload_n 1, 1) := dk_27 (dk_at dksX7_worth_3 10 rfl rfl)
theorem dX7_worth_115 : decode cX7_worth 115 = .ok (.ifCond .eq 11, 3) := dk_153 0 11 (dk_at dksX7_worth_3 11 rfl rfl)
theorem dX7_worth_118 : decode cX7_worth 118 = .ok (.iload_n 2, 1) := dk_28 (dk_at dksX7_worth_3 14 rfl rfl)
theorem dX7_worth_119 : decode cX7_worth 119 = .ok (.ifCond .eq 7, 3) := dk_153 0 7 (dk_at dksX7_worth_3 15 rfl rfl)
theorem dX7_worth_122 : decode cX7_worth 122 = .ok (.iconst 1, 1) := dk_4 (dk_at dksX7_worth_3 18 rfl rfl)
theorem dX7_worth_123 : decode cX7_worth 123 = .ok (.goto 4, 3) := dk_167 0 4 (dk_at dksX7_worth_3 19 rfl rfl)
theorem dX7_worth_126 : decode cX7_worth 126 = .ok (.iconst 0, 1) := dk_3 (dk_at dksX7_worth_3 22 rfl rfl)
theorem dX7_worth_127 : decode cX7_worth 127 = .ok (.ireturn, 1) := dk_172 (dk_at dksX7_worth_3 23 rfl rfl)
theorem dX7_worth_128 : decode cX7_worth 128 = .ok (.iload_n 1, 1) := dk_27 (dk_at dksX7_worth_4 0 rfl rfl)
theorem dX7_worth_129 : decode cX7_worth 129 = .ok (.ifCond .ne 7, 3) := dk_154 0 7 (dk_at dksX7_worth_4 1 rfl rfl)
theorem dX7_worth_132 : decode cX7_worth 132 = .ok (.iload_n 2, 1) := dk_28 (dk_at dksX7_worth_4 4 rfl rfl)
theorem dX7_worth_133 : decode cX7_worth 133 = .ok (.ifCond .eq 7, 3) := dk_153 0 7 (dk_at dksX7_worth_4 5 rfl rfl)
theorem dX7_worth_136 : decode cX7_worth 136 = .ok (.iconst 1, 1) := dk_4 (dk_at dksX7_worth_4 8 rfl rfl)
theorem dX7_worth_137 : decode cX7_worth 137 = .ok (.goto 4, 3) := dk_167 0 4 (dk_at dksX7_worth_4 9 rfl rfl)
theorem dX7_worth_140 : decode cX7_worth 140 = .ok (.iconst 0, 1) := dk_3 (dk_at dksX7_worth_4 12 rfl rfl)
theorem dX7_worth_141 : decode cX7_worth 141 = .ok (.ireturn, 1) := dk_172 (dk_at dksX7_worth_4 13 rfl rfl)
abbrev cX7_init : ByteArray := prog_14_method_1_code
def yX7_init : MethodName := ⟨RX7, "<init>", "(ILBoatsCalledIn$Node;LBoatsCalledIn$Node;)V"⟩
def dkwX7_init_0 : List UInt8 := [42, 183, 0, 1, 42, 27, 181, 0, 7, 42, 44, 181, 0, 13, 42, 45, 181, 0, 17, 177]
abbrev dktX7_init_0 : List UInt8 := dkwX7_init_0 ++ []
theorem dksX7_init_0 : cX7_init.data.toList.drop 0 = dktX7_init_0 := by decide +kernel
theorem dX7_init_0 : decode cX7_init 0 = .ok (.aload_n 0, 1) := dk_42 (dk_at dksX7_init_0 0 rfl rfl)
theorem dX7_init_1 : decode cX7_init 1 = .ok (.invokespecial 1, 3) := dk_183 0 1 (dk_at dksX7_init_0 1 rfl rfl)
theorem dX7_init_4 : decode cX7_init 4 = .ok (.aload_n 0, 1) := dk_42 (dk_at dksX7_init_0 4 rfl rfl)
theorem dX7_init_5 : decode cX7_init 5 = .ok (.iload_n 1, 1) := dk_27 (dk_at dksX7_init_0 5 rfl rfl)
theorem dX7_init_6 : decode cX7_init 6 = .ok (.putfield 7, 3) := dk_181 0 7 (dk_at dksX7_init_0 6 rfl rfl)
theorem dX7_init_9 : decode cX7_init 9 = .ok (.aload_n 0, 1) := dk_42 (dk_at dksX7_init_0 9 rfl rfl)
theorem dX7_init_10 : decode cX7_init 10 = .ok (.aload_n 2, 1) := dk_44 (dk_at dksX7_init_0 10 rfl rfl)
theorem dX7_init_11 : decode cX7_init 11 = .ok (.putfield 13, 3) := dk_181 0 13 (dk_at dksX7_init_0 11 rfl rfl)
theorem dX7_init_14 : decode cX7_init 14 = .ok (.aload_n 0, 1) := dk_42 (dk_at dksX7_init_0 14 rfl rfl)
theorem dX7_init_15 : decode cX7_init 15 = .ok (.aload_n 3, 1) := dk_45 (dk_at dksX7_init_0 15 rfl rfl)
theorem dX7_init_16 : decode cX7_init 16 = .ok (.putfield 17, 3) := dk_181 0 17 (dk_at dksX7_init_0 16 rfl rfl)
theorem dX7_init_19 : decode cX7_init 19 = .ok (.return_, 1) := dk_177 (dk_at dksX7_init_0 19 rfl rfl)
theorem q86 : (Jvm.Cond.initialized "BoatsCalledIn$Two") ∈ lw_all := lw_g (lw_at lw_m1 17 rfl) rfl
theorem q335 : (Jvm.Cond.instanceMethod ({ cls := "BoatsCalledIn$Two", name := "worth", desc := "()I" } : Jvm.MethodName)) ∈ lw_all := lw_g (lw_at lw_m2 26 rfl) rfl
theorem q336 : (Jvm.Cond.code ({ cls := "BoatsCalledIn$Two", name := "worth", desc := "()I" } : Jvm.MethodName) prog_14_method_2_code (3 : Nat) (Option.some Jvm.ClassFile.FieldType.int)) ∈ lw_all := lw_g (lw_at lw_m2 27 rfl) rfl
theorem q337 : (Jvm.Cond.methodLink "BoatsCalledIn$Two" (20 : Nat) ({ cls := "BoatsCalledIn$Node", name := "worth", desc := "()I" } : Jvm.MethodName)) ∈ lw_all := lw_g (lw_at lw_m2 28 rfl) rfl
theorem q338 : (Jvm.Cond.selects "BoatsCalledIn$Two" ({ cls := "BoatsCalledIn$Node", name := "worth", desc := "()I" } : Jvm.MethodName) ({ cls := "BoatsCalledIn$Two", name := "worth", desc := "()I" } : Jvm.MethodName)) ∈ lw_all := lw_g (lw_at lw_m2 29 rfl) rfl
theorem q610 : (Jvm.Cond.instantiable "BoatsCalledIn$Two" (3 : Nat)) ∈ lw_all := lw_g (lw_at lw_m3 61 rfl) rfl
theorem q612 : (Jvm.Cond.instanceMethod ({ cls := "BoatsCalledIn$Two", name := "<init>", desc := "(ILBoatsCalledIn$Node;LBoatsCalledIn$Node;)V" } : Jvm.MethodName)) ∈ lw_all := lw_g (lw_at lw_m3 63 rfl) rfl
theorem q613 : (Jvm.Cond.code ({ cls := "BoatsCalledIn$Two", name := "<init>", desc := "(ILBoatsCalledIn$Node;LBoatsCalledIn$Node;)V" } : Jvm.MethodName) prog_14_method_1_code (4 : Nat) (Option.none : Option Jvm.ClassFile.FieldType)) ∈ lw_all := lw_g (lw_at lw_m3 64 rfl) rfl
theorem q614 : (Jvm.Cond.methodLinkNest "BoatsCalledIn$Two" (1 : Nat) ({ cls := "BoatsCalledIn$Node", name := "<init>", desc := "()V" } : Jvm.MethodName) "BoatsCalledIn") ∈ lw_tbl := lw_at lw_m3 65 rfl
theorem q615 : (Jvm.Cond.fieldLink "BoatsCalledIn$Two" (7 : Nat) "BoatsCalledIn$Two" "sign" "I") ∈ lw_all := lw_g (lw_at lw_m3 66 rfl) rfl
theorem q616 : (Jvm.Cond.fieldLink "BoatsCalledIn$Two" (13 : Nat) "BoatsCalledIn$Two" "a" "LBoatsCalledIn$Node;") ∈ lw_all := lw_g (lw_at lw_m3 67 rfl) rfl
theorem q617 : (Jvm.Cond.fieldLink "BoatsCalledIn$Two" (17 : Nat) "BoatsCalledIn$Two" "b" "LBoatsCalledIn$Node;") ∈ lw_all := lw_g (lw_at lw_m3 68 rfl) rfl
theorem q618 : (Jvm.Cond.laysFinal "BoatsCalledIn$Two" "BoatsCalledIn$Two" "sign" "I") ∈ lw_all := lw_g (lw_at lw_m3 69 rfl) rfl
theorem q619 : (Jvm.Cond.soleField "BoatsCalledIn$Two" "sign") ∈ lw_all := lw_g (lw_at lw_m3 70 rfl) rfl
theorem q620 : (Jvm.Cond.laysFinal "BoatsCalledIn$Two" "BoatsCalledIn$Two" "a" "LBoatsCalledIn$Node;") ∈ lw_all := lw_g (lw_at lw_m3 71 rfl) rfl
theorem q621 : (Jvm.Cond.soleField "BoatsCalledIn$Two" "a") ∈ lw_all := lw_g (lw_at lw_m3 72 rfl) rfl
theorem q622 : (Jvm.Cond.laysFinal "BoatsCalledIn$Two" "BoatsCalledIn$Two" "b" "LBoatsCalledIn$Node;") ∈ lw_all := lw_g (lw_at lw_m3 73 rfl) rfl
theorem q623 : (Jvm.Cond.soleField "BoatsCalledIn$Two" "b") ∈ lw_all := lw_g (lw_at lw_m3 74 rfl) rfl
theorem q624 : (Jvm.Cond.superclass "BoatsCalledIn$Two" "BoatsCalledIn$Node") ∈ lw_all := lw_g (lw_at lw_m3 75 rfl) rfl
theorem q1557 : (Jvm.Cond.castable "BoatsCalledIn$Two" "BoatsCalledIn$Node") ∈ lw_tbl := lw_at lw_m7 48 rfl
theorem in_X7 : ∀ w ∈ wsX70, w ∈ lw_all := lw_in wsX70 [618, 620, 622] (by decide +kernel) (by decide +kernel)
/-! BoatsCalledIn$Boat -/
set_option maxRecDepth 100000
def RX9 : String := "BoatsCalledIn$Boat"
def TX9 : u_T := fun k => match k with
  | _ => ("BoatsCalledIn$Boat", "number", "I", false)
def tyX9 : Nat → FieldType := fun k => match k with
  | _ => .int
abbrev wsX90 : List Cond := u_ws RX9 TX9 1
theorem nmX9 : ∀ a, a < 1 → ∀ b, b < 1 → a ≠ b → (TX9 a).2.1 ≠ (TX9 b).2.1 := by decide +kernel
theorem tyX9_ok : ∀ k, k < 1 → parseFieldDescriptor (TX9 k).2.2.1 = some (tyX9 k) := by decide +kernel
abbrev cX9_init : ByteArray := prog_2_method_1_code
def yX9_init : MethodName := ⟨RX9, "<init>", "(I)V"⟩
def dkwX9_init_0 : List UInt8 := [42, 183, 0, 1, 42, 27, 181, 0, 7, 177]
abbrev dktX9_init_0 : List UInt8 := dkwX9_init_0 ++ []
theorem dksX9_init_0 : cX9_init.data.toList.drop 0 = dktX9_init_0 := by decide +kernel
theorem dX9_init_0 : decode cX9_init 0 = .ok (.aload_n 0, 1) := dk_42 (dk_at dksX9_init_0 0 rfl rfl)
theorem dX9_init_1 : decode cX9_init 1 = .ok (.invokespecial 1, 3) := dk_183 0 1 (dk_at dksX9_init_0 1 rfl rfl)
theorem dX9_init_4 : decode cX9_init 4 = .ok (.aload_n 0, 1) := dk_42 (dk_at dksX9_init_0 4 rfl rfl)
theorem dX9_init_5 : decode cX9_init 5 = .ok (.iload_n 1, 1) := dk_27 (dk_at dksX9_init_0 5 rfl rfl)
theorem dX9_init_6 : decode cX9_init 6 = .ok (.putfield 7, 3) := dk_181 0 7 (dk_at dksX9_init_0 6 rfl rfl)
theorem dX9_init_9 : decode cX9_init 9 = .ok (.return_, 1) := dk_177 (dk_at dksX9_init_0 9 rfl rfl)
abbrev cX9_kind : ByteArray := prog_2_method_2_code
def yX9_kind : MethodName := ⟨RX9, "kind", "()I"⟩
theorem dX9_kind_0 : decode cX9_kind 0 = .ok (.iconst 0, 1) := by decide +kernel
theorem dX9_kind_1 : decode cX9_kind 1 = .ok (.ireturn, 1) := by decide +kernel
abbrev cX9_heldRows : ByteArray := prog_2_method_6_code
def yX9_heldRows : MethodName := ⟨RX9, "heldRows", "(I)I"⟩
def dkwX9_heldRows_0 : List UInt8 := [4, 42, 27, 182, 0, 13, 184, 0, 17, 172]
abbrev dktX9_heldRows_0 : List UInt8 := dkwX9_heldRows_0 ++ []
theorem dksX9_heldRows_0 : cX9_heldRows.data.toList.drop 0 = dktX9_heldRows_0 := by decide +kernel
theorem dX9_heldRows_0 : decode cX9_heldRows 0 = .ok (.iconst 1, 1) := dk_4 (dk_at dksX9_heldRows_0 0 rfl rfl)
theorem dX9_heldRows_1 : decode cX9_heldRows 1 = .ok (.aload_n 0, 1) := dk_42 (dk_at dksX9_heldRows_0 1 rfl rfl)
theorem dX9_heldRows_2 : decode cX9_heldRows 2 = .ok (.iload_n 1, 1) := dk_27 (dk_at dksX9_heldRows_0 2 rfl rfl)
theorem dX9_heldRows_3 : decode cX9_heldRows 3 = .ok (.invokevirtual 13, 3) := dk_182 0 13 (dk_at dksX9_heldRows_0 3 rfl rfl)
theorem dX9_heldRows_6 : decode cX9_heldRows 6 = .ok (.invokestatic 17, 3) := dk_184 0 17 (dk_at dksX9_heldRows_0 6 rfl rfl)
theorem dX9_heldRows_9 : decode cX9_heldRows 9 = .ok (.ireturn, 1) := dk_172 (dk_at dksX9_heldRows_0 9 rfl rfl)
abbrev cX9_rows : ByteArray := prog_2_method_3_code
def yX9_rows : MethodName := ⟨RX9, "rows", "(I)I"⟩
def dkwX9_rows_0 : List UInt8 := [5, 27, 5, 108, 96, 172]
abbrev dktX9_rows_0 : List UInt8 := dkwX9_rows_0 ++ []
theorem dksX9_rows_0 : cX9_rows.data.toList.drop 0 = dktX9_rows_0 := by decide +kernel
theorem dX9_rows_0 : decode cX9_rows 0 = .ok (.iconst 2, 1) := dk_5 (dk_at dksX9_rows_0 0 rfl rfl)
theorem dX9_rows_1 : decode cX9_rows 1 = .ok (.iload_n 1, 1) := dk_27 (dk_at dksX9_rows_0 1 rfl rfl)
theorem dX9_rows_2 : decode cX9_rows 2 = .ok (.iconst 2, 1) := dk_5 (dk_at dksX9_rows_0 2 rfl rfl)
theorem dX9_rows_3 : decode cX9_rows 3 = .ok (.idiv, 1) := dk_108 (dk_at dksX9_rows_0 3 rfl rfl)
theorem dX9_rows_4 : decode cX9_rows 4 = .ok (.iadd, 1) := dk_96 (dk_at dksX9_rows_0 4 rfl rfl)
theorem dX9_rows_5 : decode cX9_rows 5 = .ok (.ireturn, 1) := dk_172 (dk_at dksX9_rows_0 5 rfl rfl)
abbrev cX9_heldHears : ByteArray := prog_2_method_7_code
def yX9_heldHears : MethodName := ⟨RX9, "heldHears", "(I)I"⟩
def dkwX9_heldHears_0 : List UInt8 := [3, 42, 27, 182, 0, 23, 184, 0, 17, 172]
abbrev dktX9_heldHears_0 : List UInt8 := dkwX9_heldHears_0 ++ []
theorem dksX9_heldHears_0 : cX9_heldHears.data.toList.drop 0 = dktX9_heldHears_0 := by decide +kernel
theorem dX9_heldHears_0 : decode cX9_heldHears 0 = .ok (.iconst 0, 1) := dk_3 (dk_at dksX9_heldHears_0 0 rfl rfl)
theorem dX9_heldHears_1 : decode cX9_heldHears 1 = .ok (.aload_n 0, 1) := dk_42 (dk_at dksX9_heldHears_0 1 rfl rfl)
theorem dX9_heldHears_2 : decode cX9_heldHears 2 = .ok (.iload_n 1, 1) := dk_27 (dk_at dksX9_heldHears_0 2 rfl rfl)
theorem dX9_heldHears_3 : decode cX9_heldHears 3 = .ok (.invokevirtual 23, 3) := dk_182 0 23 (dk_at dksX9_heldHears_0 3 rfl rfl)
theorem dX9_heldHears_6 : decode cX9_heldHears 6 = .ok (.invokestatic 17, 3) := dk_184 0 17 (dk_at dksX9_heldHears_0 6 rfl rfl)
theorem dX9_heldHears_9 : decode cX9_heldHears 9 = .ok (.ireturn, 1) := dk_172 (dk_at dksX9_heldHears_0 9 rfl rfl)
abbrev cX9_hears : ByteArray := prog_2_method_4_code
def yX9_hears : MethodName := ⟨RX9, "hears", "(I)I"⟩
def dkwX9_hears_0 : List UInt8 := [16, 12, 27, 100, 172]
abbrev dktX9_hears_0 : List UInt8 := dkwX9_hears_0 ++ []
theorem dksX9_hears_0 : cX9_hears.data.toList.drop 0 = dktX9_hears_0 := by decide +kernel
theorem dX9_hears_0 : decode cX9_hears 0 = .ok (.bipush 12, 2) := dk_16 12 (dk_at dksX9_hears_0 0 rfl rfl)
theorem dX9_hears_2 : decode cX9_hears 2 = .ok (.iload_n 1, 1) := dk_27 (dk_at dksX9_hears_0 2 rfl rfl)
theorem dX9_hears_3 : decode cX9_hears 3 = .ok (.isub, 1) := dk_100 (dk_at dksX9_hears_0 3 rfl rfl)
theorem dX9_hears_4 : decode cX9_hears 4 = .ok (.ireturn, 1) := dk_172 (dk_at dksX9_hears_0 4 rfl rfl)
abbrev cX9_heldOwes : ByteArray := prog_2_method_8_code
def yX9_heldOwes : MethodName := ⟨RX9, "heldOwes", "(II)I"⟩
def dkwX9_heldOwes_0 : List UInt8 := [3, 42, 27, 28, 182, 0, 26, 184, 0, 17, 172]
abbrev dktX9_heldOwes_0 : List UInt8 := dkwX9_heldOwes_0 ++ []
theorem dksX9_heldOwes_0 : cX9_heldOwes.data.toList.drop 0 = dktX9_heldOwes_0 := by decide +kernel
theorem dX9_heldOwes_0 : decode cX9_heldOwes 0 = .ok (.iconst 0, 1) := dk_3 (dk_at dksX9_heldOwes_0 0 rfl rfl)
theorem dX9_heldOwes_1 : decode cX9_heldOwes 1 = .ok (.aload_n 0, 1) := dk_42 (dk_at dksX9_heldOwes_0 1 rfl rfl)
theorem dX9_heldOwes_2 : decode cX9_heldOwes 2 = .ok (.iload_n 1, 1) := dk_27 (dk_at dksX9_heldOwes_0 2 rfl rfl)
theorem dX9_heldOwes_3 : decode cX9_heldOwes 3 = .ok (.iload_n 2, 1) := dk_28 (dk_at dksX9_heldOwes_0 3 rfl rfl)
theorem dX9_heldOwes_4 : decode cX9_heldOwes 4 = .ok (.invokevirtual 26, 3) := dk_182 0 26 (dk_at dksX9_heldOwes_0 4 rfl rfl)
theorem dX9_heldOwes_7 : decode cX9_heldOwes 7 = .ok (.invokestatic 17, 3) := dk_184 0 17 (dk_at dksX9_heldOwes_0 7 rfl rfl)
theorem dX9_heldOwes_10 : decode cX9_heldOwes 10 = .ok (.ireturn, 1) := dk_172 (dk_at dksX9_heldOwes_0 10 rfl rfl)
abbrev cX9_owes : ByteArray := prog_2_method_5_code
def yX9_owes : MethodName := ⟨RX9, "owes", "(II)I"⟩
def dkwX9_owes_0 : List UInt8 := [27, 16, 14, 96, 16, 15, 108, 28, 104, 172]
abbrev dktX9_owes_0 : List UInt8 := dkwX9_owes_0 ++ []
theorem dksX9_owes_0 : cX9_owes.data.toList.drop 0 = dktX9_owes_0 := by decide +kernel
theorem dX9_owes_0 : decode cX9_owes 0 = .ok (.iload_n 1, 1) := dk_27 (dk_at dksX9_owes_0 0 rfl rfl)
theorem dX9_owes_1 : decode cX9_owes 1 = .ok (.bipush 14, 2) := dk_16 14 (dk_at dksX9_owes_0 1 rfl rfl)
theorem dX9_owes_3 : decode cX9_owes 3 = .ok (.iadd, 1) := dk_96 (dk_at dksX9_owes_0 3 rfl rfl)
theorem dX9_owes_4 : decode cX9_owes 4 = .ok (.bipush 15, 2) := dk_16 15 (dk_at dksX9_owes_0 4 rfl rfl)
theorem dX9_owes_6 : decode cX9_owes 6 = .ok (.idiv, 1) := dk_108 (dk_at dksX9_owes_0 6 rfl rfl)
theorem dX9_owes_7 : decode cX9_owes 7 = .ok (.iload_n 2, 1) := dk_28 (dk_at dksX9_owes_0 7 rfl rfl)
theorem dX9_owes_8 : decode cX9_owes 8 = .ok (.imul, 1) := dk_104 (dk_at dksX9_owes_0 8 rfl rfl)
theorem dX9_owes_9 : decode cX9_owes 9 = .ok (.ireturn, 1) := dk_172 (dk_at dksX9_owes_0 9 rfl rfl)
theorem q88 : (Jvm.Cond.initialized "BoatsCalledIn$Boat") ∈ lw_all := lw_g (lw_at lw_m1 19 rfl) rfl
theorem q123 : (Jvm.Cond.instanceMethod ({ cls := "BoatsCalledIn$Boat", name := "<init>", desc := "(I)V" } : Jvm.MethodName)) ∈ lw_all := lw_g (lw_at lw_m1 54 rfl) rfl
theorem q124 : (Jvm.Cond.code ({ cls := "BoatsCalledIn$Boat", name := "<init>", desc := "(I)V" } : Jvm.MethodName) prog_2_method_1_code (2 : Nat) (Option.none : Option Jvm.ClassFile.FieldType)) ∈ lw_all := lw_g (lw_at lw_m1 55 rfl) rfl
theorem q125 : (Jvm.Cond.methodLink "BoatsCalledIn$Boat" (1 : Nat) ({ cls := "java/lang/Object", name := "<init>", desc := "()V" } : Jvm.MethodName)) ∈ lw_all := lw_g (lw_at lw_m1 56 rfl) rfl
theorem q128 : (Jvm.Cond.fieldLink "BoatsCalledIn$Boat" (7 : Nat) "BoatsCalledIn$Boat" "number" "I") ∈ lw_all := lw_g (lw_at lw_m1 59 rfl) rfl
theorem q137 : (Jvm.Cond.soleField "BoatsCalledIn$Boat" "number") ∈ lw_all := lw_g (lw_at lw_m1 68 rfl) rfl
theorem q172 : (Jvm.Cond.instantiable "BoatsCalledIn$Boat" (1 : Nat)) ∈ lw_all := lw_g (lw_at lw_m1 103 rfl) rfl
theorem q174 : (Jvm.Cond.lays "BoatsCalledIn$Boat" "BoatsCalledIn$Boat" "number" "I") ∈ lw_all := lw_g (lw_at lw_m1 105 rfl) rfl
theorem q175 : (Jvm.Cond.superclass "BoatsCalledIn$Boat" "java/lang/Object") ∈ lw_all := lw_g (lw_at lw_m1 106 rfl) rfl
theorem q208 : (Jvm.Cond.instanceMethod ({ cls := "BoatsCalledIn$Boat", name := "kind", desc := "()I" } : Jvm.MethodName)) ∈ lw_all := lw_g (lw_at lw_m1 139 rfl) rfl
theorem q209 : (Jvm.Cond.selects "BoatsCalledIn$Boat" ({ cls := "BoatsCalledIn$Boat", name := "kind", desc := "()I" } : Jvm.MethodName) ({ cls := "BoatsCalledIn$Boat", name := "kind", desc := "()I" } : Jvm.MethodName)) ∈ lw_all := lw_g (lw_at lw_m1 140 rfl) rfl
theorem q210 : (Jvm.Cond.sameMethod "BoatsCalledIn$Boat" "BoatsCalledIn$Boat" "kind" "()I") ∈ lw_all := lw_g (lw_at lw_m1 141 rfl) rfl
theorem q231 : (Jvm.Cond.code ({ cls := "BoatsCalledIn$Boat", name := "kind", desc := "()I" } : Jvm.MethodName) prog_2_method_2_code (1 : Nat) (Option.some Jvm.ClassFile.FieldType.int)) ∈ lw_all := lw_g (lw_at lw_m1 162 rfl) rfl
theorem q233 : (Jvm.Cond.instanceMethod ({ cls := "BoatsCalledIn$Boat", name := "heldRows", desc := "(I)I" } : Jvm.MethodName)) ∈ lw_all := lw_g (lw_at lw_m1 164 rfl) rfl
theorem q234 : (Jvm.Cond.selects "BoatsCalledIn$Boat" ({ cls := "BoatsCalledIn$Boat", name := "heldRows", desc := "(I)I" } : Jvm.MethodName) ({ cls := "BoatsCalledIn$Boat", name := "heldRows", desc := "(I)I" } : Jvm.MethodName)) ∈ lw_all := lw_g (lw_at lw_m1 165 rfl) rfl
theorem q235 : (Jvm.Cond.sameMethod "BoatsCalledIn$Boat" "BoatsCalledIn$Boat" "heldRows" "(I)I") ∈ lw_all := lw_g (lw_at lw_m1 166 rfl) rfl
theorem q241 : (Jvm.Cond.code ({ cls := "BoatsCalledIn$Boat", name := "heldRows", desc := "(I)I" } : Jvm.MethodName) prog_2_method_6_code (2 : Nat) (Option.some Jvm.ClassFile.FieldType.int)) ∈ lw_all := lw_g (lw_at lw_m1 172 rfl) rfl
theorem q242 : (Jvm.Cond.methodLink "BoatsCalledIn$Boat" (13 : Nat) ({ cls := "BoatsCalledIn$Boat", name := "rows", desc := "(I)I" } : Jvm.MethodName)) ∈ lw_all := lw_g (lw_at lw_m1 173 rfl) rfl
theorem q243 : (Jvm.Cond.instanceMethod ({ cls := "BoatsCalledIn$Boat", name := "rows", desc := "(I)I" } : Jvm.MethodName)) ∈ lw_all := lw_g (lw_at lw_m1 174 rfl) rfl
theorem q244 : (Jvm.Cond.selects "BoatsCalledIn$Boat" ({ cls := "BoatsCalledIn$Boat", name := "rows", desc := "(I)I" } : Jvm.MethodName) ({ cls := "BoatsCalledIn$Boat", name := "rows", desc := "(I)I" } : Jvm.MethodName)) ∈ lw_all := lw_g (lw_at lw_m1 175 rfl) rfl
theorem q245 : (Jvm.Cond.sameMethod "BoatsCalledIn$Boat" "BoatsCalledIn$Boat" "rows" "(I)I") ∈ lw_all := lw_g (lw_at lw_m1 176 rfl) rfl
theorem q263 : (Jvm.Cond.code ({ cls := "BoatsCalledIn$Boat", name := "rows", desc := "(I)I" } : Jvm.MethodName) prog_2_method_3_code (2 : Nat) (Option.some Jvm.ClassFile.FieldType.int)) ∈ lw_all := lw_g (lw_at lw_m1 194 rfl) rfl
theorem q264 : (Jvm.Cond.methodLink "BoatsCalledIn$Boat" (17 : Nat) ({ cls := "java/lang/Math", name := "max", desc := "(II)I" } : Jvm.MethodName)) ∈ lw_all := lw_g (lw_at lw_m1 195 rfl) rfl
theorem q268 : (Jvm.Cond.instanceMethod ({ cls := "BoatsCalledIn$Boat", name := "heldHears", desc := "(I)I" } : Jvm.MethodName)) ∈ lw_all := lw_g (lw_at lw_m1 199 rfl) rfl
theorem q269 : (Jvm.Cond.selects "BoatsCalledIn$Boat" ({ cls := "BoatsCalledIn$Boat", name := "heldHears", desc := "(I)I" } : Jvm.MethodName) ({ cls := "BoatsCalledIn$Boat", name := "heldHears", desc := "(I)I" } : Jvm.MethodName)) ∈ lw_all := lw_g (lw_at lw_m1 200 rfl) rfl
theorem q270 : (Jvm.Cond.sameMethod "BoatsCalledIn$Boat" "BoatsCalledIn$Boat" "heldHears" "(I)I") ∈ lw_all := lw_g (lw_at lw_m1 201 rfl) rfl
theorem q276 : (Jvm.Cond.code ({ cls := "BoatsCalledIn$Boat", name := "heldHears", desc := "(I)I" } : Jvm.MethodName) prog_2_method_7_code (2 : Nat) (Option.some Jvm.ClassFile.FieldType.int)) ∈ lw_all := lw_g (lw_at lw_m1 207 rfl) rfl
theorem q277 : (Jvm.Cond.methodLink "BoatsCalledIn$Boat" (23 : Nat) ({ cls := "BoatsCalledIn$Boat", name := "hears", desc := "(I)I" } : Jvm.MethodName)) ∈ lw_all := lw_g (lw_at lw_m1 208 rfl) rfl
theorem q278 : (Jvm.Cond.instanceMethod ({ cls := "BoatsCalledIn$Boat", name := "hears", desc := "(I)I" } : Jvm.MethodName)) ∈ lw_all := lw_g (lw_at lw_m1 209 rfl) rfl
theorem q279 : (Jvm.Cond.selects "BoatsCalledIn$Boat" ({ cls := "BoatsCalledIn$Boat", name := "hears", desc := "(I)I" } : Jvm.MethodName) ({ cls := "BoatsCalledIn$Boat", name := "hears", desc := "(I)I" } : Jvm.MethodName)) ∈ lw_all := lw_g (lw_at lw_m1 210 rfl) rfl
theorem q280 : (Jvm.Cond.sameMethod "BoatsCalledIn$Boat" "BoatsCalledIn$Boat" "hears" "(I)I") ∈ lw_all := lw_g (lw_at lw_m1 211 rfl) rfl
theorem q298 : (Jvm.Cond.code ({ cls := "BoatsCalledIn$Boat", name := "hears", desc := "(I)I" } : Jvm.MethodName) prog_2_method_4_code (2 : Nat) (Option.some Jvm.ClassFile.FieldType.int)) ∈ lw_all := lw_g (lw_at lw_m1 229 rfl) rfl
theorem q349 : (Jvm.Cond.instanceMethod ({ cls := "BoatsCalledIn$Boat", name := "heldOwes", desc := "(II)I" } : Jvm.MethodName)) ∈ lw_all := lw_g (lw_at lw_m2 40 rfl) rfl
theorem q350 : (Jvm.Cond.selects "BoatsCalledIn$Boat" ({ cls := "BoatsCalledIn$Boat", name := "heldOwes", desc := "(II)I" } : Jvm.MethodName) ({ cls := "BoatsCalledIn$Boat", name := "heldOwes", desc := "(II)I" } : Jvm.MethodName)) ∈ lw_all := lw_g (lw_at lw_m2 41 rfl) rfl
theorem q351 : (Jvm.Cond.sameMethod "BoatsCalledIn$Boat" "BoatsCalledIn$Boat" "heldOwes" "(II)I") ∈ lw_all := lw_g (lw_at lw_m2 42 rfl) rfl
theorem q357 : (Jvm.Cond.code ({ cls := "BoatsCalledIn$Boat", name := "heldOwes", desc := "(II)I" } : Jvm.MethodName) prog_2_method_8_code (3 : Nat) (Option.some Jvm.ClassFile.FieldType.int)) ∈ lw_all := lw_g (lw_at lw_m2 48 rfl) rfl
theorem q358 : (Jvm.Cond.methodLink "BoatsCalledIn$Boat" (26 : Nat) ({ cls := "BoatsCalledIn$Boat", name := "owes", desc := "(II)I" } : Jvm.MethodName)) ∈ lw_all := lw_g (lw_at lw_m2 49 rfl) rfl
theorem q359 : (Jvm.Cond.instanceMethod ({ cls := "BoatsCalledIn$Boat", name := "owes", desc := "(II)I" } : Jvm.MethodName)) ∈ lw_all := lw_g (lw_at lw_m2 50 rfl) rfl
theorem q360 : (Jvm.Cond.selects "BoatsCalledIn$Boat" ({ cls := "BoatsCalledIn$Boat", name := "owes", desc := "(II)I" } : Jvm.MethodName) ({ cls := "BoatsCalledIn$Boat", name := "owes", desc := "(II)I" } : Jvm.MethodName)) ∈ lw_all := lw_g (lw_at lw_m2 51 rfl) rfl
theorem q361 : (Jvm.Cond.sameMethod "BoatsCalledIn$Boat" "BoatsCalledIn$Boat" "owes" "(II)I") ∈ lw_all := lw_g (lw_at lw_m2 52 rfl) rfl
theorem q378 : (Jvm.Cond.code ({ cls := "BoatsCalledIn$Boat", name := "owes", desc := "(II)I" } : Jvm.MethodName) prog_2_method_5_code (3 : Nat) (Option.some Jvm.ClassFile.FieldType.int)) ∈ lw_all := lw_g (lw_at lw_m2 69 rfl) rfl
theorem in_X9 : ∀ w ∈ wsX90, w ∈ lw_all := lw_in wsX90 [174] (by decide +kernel) (by decide +kernel)
/-! BoatsCalledIn$Skiff -/
set_option maxRecDepth 100000
def RX10 : String := "BoatsCalledIn$Skiff"
def TX10 : u_T := fun k => match k with
  | _ => ("BoatsCalledIn$Boat", "number", "I", false)
def tyX10 : Nat → FieldType := fun k => match k with
  | _ => .int
abbrev wsX100 : List Cond := u_ws RX10 TX10 1
theorem nmX10 : ∀ a, a < 1 → ∀ b, b < 1 → a ≠ b → (TX10 a).2.1 ≠ (TX10 b).2.1 := by decide +kernel
theorem tyX10_ok : ∀ k, k < 1 → parseFieldDescriptor (TX10 k).2.2.1 = some (tyX10 k) := by decide +kernel
abbrev cX10_init : ByteArray := prog_12_method_1_code
def yX10_init : MethodName := ⟨RX10, "<init>", "(I)V"⟩
def dkwX10_init_0 : List UInt8 := [42, 27, 183, 0, 1, 177]
abbrev dktX10_init_0 : List UInt8 := dkwX10_init_0 ++ []
theorem dksX10_init_0 : cX10_init.data.toList.drop 0 = dktX10_init_0 := by decide +kernel
theorem dX10_init_0 : decode cX10_init 0 = .ok (.aload_n 0, 1) := dk_42 (dk_at dksX10_init_0 0 rfl rfl)
theorem dX10_init_1 : decode cX10_init 1 = .ok (.iload_n 1, 1) := dk_27 (dk_at dksX10_init_0 1 rfl rfl)
theorem dX10_init_2 : decode cX10_init 2 = .ok (.invokespecial 1, 3) := dk_183 0 1 (dk_at dksX10_init_0 2 rfl rfl)
theorem dX10_init_5 : decode cX10_init 5 = .ok (.return_, 1) := dk_177 (dk_at dksX10_init_0 5 rfl rfl)
abbrev cX10_kind : ByteArray := prog_12_method_2_code
def yX10_kind : MethodName := ⟨RX10, "kind", "()I"⟩
def dkwX10_kind_0 : List UInt8 := [42, 183, 0, 7, 4, 96, 172]
abbrev dktX10_kind_0 : List UInt8 := dkwX10_kind_0 ++ []
theorem dksX10_kind_0 : cX10_kind.data.toList.drop 0 = dktX10_kind_0 := by decide +kernel
theorem dX10_kind_0 : decode cX10_kind 0 = .ok (.aload_n 0, 1) := dk_42 (dk_at dksX10_kind_0 0 rfl rfl)
theorem dX10_kind_1 : decode cX10_kind 1 = .ok (.invokespecial 7, 3) := dk_183 0 7 (dk_at dksX10_kind_0 1 rfl rfl)
theorem dX10_kind_4 : decode cX10_kind 4 = .ok (.iconst 1, 1) := dk_4 (dk_at dksX10_kind_0 4 rfl rfl)
theorem dX10_kind_5 : decode cX10_kind 5 = .ok (.iadd, 1) := dk_96 (dk_at dksX10_kind_0 5 rfl rfl)
theorem dX10_kind_6 : decode cX10_kind 6 = .ok (.ireturn, 1) := dk_172 (dk_at dksX10_kind_0 6 rfl rfl)
abbrev cX10_rows : ByteArray := prog_12_method_3_code
def yX10_rows : MethodName := ⟨RX10, "rows", "(I)I"⟩
def dkwX10_rows_0 : List UInt8 := [42, 27, 183, 0, 11, 4, 100, 172]
abbrev dktX10_rows_0 : List UInt8 := dkwX10_rows_0 ++ []
theorem dksX10_rows_0 : cX10_rows.data.toList.drop 0 = dktX10_rows_0 := by decide +kernel
theorem dX10_rows_0 : decode cX10_rows 0 = .ok (.aload_n 0, 1) := dk_42 (dk_at dksX10_rows_0 0 rfl rfl)
theorem dX10_rows_1 : decode cX10_rows 1 = .ok (.iload_n 1, 1) := dk_27 (dk_at dksX10_rows_0 1 rfl rfl)
theorem dX10_rows_2 : decode cX10_rows 2 = .ok (.invokespecial 11, 3) := dk_183 0 11 (dk_at dksX10_rows_0 2 rfl rfl)
theorem dX10_rows_5 : decode cX10_rows 5 = .ok (.iconst 1, 1) := dk_4 (dk_at dksX10_rows_0 5 rfl rfl)
theorem dX10_rows_6 : decode cX10_rows 6 = .ok (.isub, 1) := dk_100 (dk_at dksX10_rows_0 6 rfl rfl)
theorem dX10_rows_7 : decode cX10_rows 7 = .ok (.ireturn, 1) := dk_172 (dk_at dksX10_rows_0 7 rfl rfl)
abbrev cX10_hears : ByteArray := prog_12_method_4_code
def yX10_hears : MethodName := ⟨RX10, "hears", "(I)I"⟩
def dkwX10_hears_0 : List UInt8 := [42, 27, 183, 0, 15, 42, 180, 0, 18, 96, 172]
abbrev dktX10_hears_0 : List UInt8 := dkwX10_hears_0 ++ []
theorem dksX10_hears_0 : cX10_hears.data.toList.drop 0 = dktX10_hears_0 := by decide +kernel
theorem dX10_hears_0 : decode cX10_hears 0 = .ok (.aload_n 0, 1) := dk_42 (dk_at dksX10_hears_0 0 rfl rfl)
theorem dX10_hears_1 : decode cX10_hears 1 = .ok (.iload_n 1, 1) := dk_27 (dk_at dksX10_hears_0 1 rfl rfl)
theorem dX10_hears_2 : decode cX10_hears 2 = .ok (.invokespecial 15, 3) := dk_183 0 15 (dk_at dksX10_hears_0 2 rfl rfl)
theorem dX10_hears_5 : decode cX10_hears 5 = .ok (.aload_n 0, 1) := dk_42 (dk_at dksX10_hears_0 5 rfl rfl)
theorem dX10_hears_6 : decode cX10_hears 6 = .ok (.getfield 18, 3) := dk_180 0 18 (dk_at dksX10_hears_0 6 rfl rfl)
theorem dX10_hears_9 : decode cX10_hears 9 = .ok (.iadd, 1) := dk_96 (dk_at dksX10_hears_0 9 rfl rfl)
theorem dX10_hears_10 : decode cX10_hears 10 = .ok (.ireturn, 1) := dk_172 (dk_at dksX10_hears_0 10 rfl rfl)
theorem q89 : (Jvm.Cond.initialized "BoatsCalledIn$Skiff") ∈ lw_all := lw_g (lw_at lw_m1 20 rfl) rfl
theorem q118 : (Jvm.Cond.instantiable "BoatsCalledIn$Skiff" (1 : Nat)) ∈ lw_all := lw_g (lw_at lw_m1 49 rfl) rfl
theorem q120 : (Jvm.Cond.instanceMethod ({ cls := "BoatsCalledIn$Skiff", name := "<init>", desc := "(I)V" } : Jvm.MethodName)) ∈ lw_all := lw_g (lw_at lw_m1 51 rfl) rfl
theorem q121 : (Jvm.Cond.code ({ cls := "BoatsCalledIn$Skiff", name := "<init>", desc := "(I)V" } : Jvm.MethodName) prog_12_method_1_code (2 : Nat) (Option.none : Option Jvm.ClassFile.FieldType)) ∈ lw_all := lw_g (lw_at lw_m1 52 rfl) rfl
theorem q122 : (Jvm.Cond.methodLink "BoatsCalledIn$Skiff" (1 : Nat) ({ cls := "BoatsCalledIn$Boat", name := "<init>", desc := "(I)V" } : Jvm.MethodName)) ∈ lw_all := lw_g (lw_at lw_m1 53 rfl) rfl
theorem q133 : (Jvm.Cond.fieldLink "BoatsCalledIn$Skiff" (18 : Nat) "BoatsCalledIn$Skiff" "number" "I") ∈ lw_all := lw_g (lw_at lw_m1 64 rfl) rfl
theorem q134 : (Jvm.Cond.sameField "BoatsCalledIn$Skiff" "BoatsCalledIn$Boat" "number" "I") ∈ lw_all := lw_g (lw_at lw_m1 65 rfl) rfl
theorem q136 : (Jvm.Cond.lays "BoatsCalledIn$Skiff" "BoatsCalledIn$Boat" "number" "I") ∈ lw_all := lw_g (lw_at lw_m1 67 rfl) rfl
theorem q138 : (Jvm.Cond.superclass "BoatsCalledIn$Skiff" "BoatsCalledIn$Boat") ∈ lw_all := lw_g (lw_at lw_m1 69 rfl) rfl
theorem q222 : (Jvm.Cond.instanceMethod ({ cls := "BoatsCalledIn$Skiff", name := "kind", desc := "()I" } : Jvm.MethodName)) ∈ lw_all := lw_g (lw_at lw_m1 153 rfl) rfl
theorem q223 : (Jvm.Cond.code ({ cls := "BoatsCalledIn$Skiff", name := "kind", desc := "()I" } : Jvm.MethodName) prog_12_method_2_code (1 : Nat) (Option.some Jvm.ClassFile.FieldType.int)) ∈ lw_all := lw_g (lw_at lw_m1 154 rfl) rfl
theorem q224 : (Jvm.Cond.methodLink "BoatsCalledIn$Skiff" (7 : Nat) ({ cls := "BoatsCalledIn$Boat", name := "kind", desc := "()I" } : Jvm.MethodName)) ∈ lw_all := lw_g (lw_at lw_m1 155 rfl) rfl
theorem q230 : (Jvm.Cond.selects "BoatsCalledIn$Skiff" ({ cls := "BoatsCalledIn$Boat", name := "kind", desc := "()I" } : Jvm.MethodName) ({ cls := "BoatsCalledIn$Skiff", name := "kind", desc := "()I" } : Jvm.MethodName)) ∈ lw_all := lw_g (lw_at lw_m1 161 rfl) rfl
theorem q240 : (Jvm.Cond.selects "BoatsCalledIn$Skiff" ({ cls := "BoatsCalledIn$Boat", name := "heldRows", desc := "(I)I" } : Jvm.MethodName) ({ cls := "BoatsCalledIn$Boat", name := "heldRows", desc := "(I)I" } : Jvm.MethodName)) ∈ lw_all := lw_g (lw_at lw_m1 171 rfl) rfl
theorem q254 : (Jvm.Cond.instanceMethod ({ cls := "BoatsCalledIn$Skiff", name := "rows", desc := "(I)I" } : Jvm.MethodName)) ∈ lw_all := lw_g (lw_at lw_m1 185 rfl) rfl
theorem q255 : (Jvm.Cond.code ({ cls := "BoatsCalledIn$Skiff", name := "rows", desc := "(I)I" } : Jvm.MethodName) prog_12_method_3_code (2 : Nat) (Option.some Jvm.ClassFile.FieldType.int)) ∈ lw_all := lw_g (lw_at lw_m1 186 rfl) rfl
theorem q256 : (Jvm.Cond.methodLink "BoatsCalledIn$Skiff" (11 : Nat) ({ cls := "BoatsCalledIn$Boat", name := "rows", desc := "(I)I" } : Jvm.MethodName)) ∈ lw_all := lw_g (lw_at lw_m1 187 rfl) rfl
theorem q262 : (Jvm.Cond.selects "BoatsCalledIn$Skiff" ({ cls := "BoatsCalledIn$Boat", name := "rows", desc := "(I)I" } : Jvm.MethodName) ({ cls := "BoatsCalledIn$Skiff", name := "rows", desc := "(I)I" } : Jvm.MethodName)) ∈ lw_all := lw_g (lw_at lw_m1 193 rfl) rfl
theorem q275 : (Jvm.Cond.selects "BoatsCalledIn$Skiff" ({ cls := "BoatsCalledIn$Boat", name := "heldHears", desc := "(I)I" } : Jvm.MethodName) ({ cls := "BoatsCalledIn$Boat", name := "heldHears", desc := "(I)I" } : Jvm.MethodName)) ∈ lw_all := lw_g (lw_at lw_m1 206 rfl) rfl
theorem q289 : (Jvm.Cond.instanceMethod ({ cls := "BoatsCalledIn$Skiff", name := "hears", desc := "(I)I" } : Jvm.MethodName)) ∈ lw_all := lw_g (lw_at lw_m1 220 rfl) rfl
theorem q290 : (Jvm.Cond.code ({ cls := "BoatsCalledIn$Skiff", name := "hears", desc := "(I)I" } : Jvm.MethodName) prog_12_method_4_code (2 : Nat) (Option.some Jvm.ClassFile.FieldType.int)) ∈ lw_all := lw_g (lw_at lw_m1 221 rfl) rfl
theorem q291 : (Jvm.Cond.methodLink "BoatsCalledIn$Skiff" (15 : Nat) ({ cls := "BoatsCalledIn$Boat", name := "hears", desc := "(I)I" } : Jvm.MethodName)) ∈ lw_all := lw_g (lw_at lw_m1 222 rfl) rfl
theorem q297 : (Jvm.Cond.selects "BoatsCalledIn$Skiff" ({ cls := "BoatsCalledIn$Boat", name := "hears", desc := "(I)I" } : Jvm.MethodName) ({ cls := "BoatsCalledIn$Skiff", name := "hears", desc := "(I)I" } : Jvm.MethodName)) ∈ lw_all := lw_g (lw_at lw_m1 228 rfl) rfl
theorem q356 : (Jvm.Cond.selects "BoatsCalledIn$Skiff" ({ cls := "BoatsCalledIn$Boat", name := "heldOwes", desc := "(II)I" } : Jvm.MethodName) ({ cls := "BoatsCalledIn$Boat", name := "heldOwes", desc := "(II)I" } : Jvm.MethodName)) ∈ lw_all := lw_g (lw_at lw_m2 47 rfl) rfl
theorem q377 : (Jvm.Cond.selects "BoatsCalledIn$Skiff" ({ cls := "BoatsCalledIn$Boat", name := "owes", desc := "(II)I" } : Jvm.MethodName) ({ cls := "BoatsCalledIn$Boat", name := "owes", desc := "(II)I" } : Jvm.MethodName)) ∈ lw_all := lw_g (lw_at lw_m2 68 rfl) rfl
theorem q1546 : (Jvm.Cond.sameMethod "BoatsCalledIn$Skiff" "BoatsCalledIn$Skiff" "kind" "()I") ∈ lw_all := lw_g (lw_at lw_m7 37 rfl) rfl
theorem q1547 : (Jvm.Cond.sameMethod "BoatsCalledIn$Skiff" "BoatsCalledIn$Skiff" "rows" "(I)I") ∈ lw_all := lw_g (lw_at lw_m7 38 rfl) rfl
theorem q1558 : (Jvm.Cond.castable "BoatsCalledIn$Skiff" "BoatsCalledIn$Boat") ∈ lw_tbl := lw_at lw_m7 49 rfl
theorem in_X10 : ∀ w ∈ wsX100, w ∈ lw_all := lw_in wsX100 [136] (by decide +kernel) (by decide +kernel)
/-! BoatsCalledIn$Punt -/
set_option maxRecDepth 100000
def RX11 : String := "BoatsCalledIn$Punt"
def TX11 : u_T := fun k => match k with
  | _ => ("BoatsCalledIn$Boat", "number", "I", false)
def tyX11 : Nat → FieldType := fun k => match k with
  | _ => .int
abbrev wsX110 : List Cond := u_ws RX11 TX11 1
theorem nmX11 : ∀ a, a < 1 → ∀ b, b < 1 → a ≠ b → (TX11 a).2.1 ≠ (TX11 b).2.1 := by decide +kernel
theorem tyX11_ok : ∀ k, k < 1 → parseFieldDescriptor (TX11 k).2.2.1 = some (tyX11 k) := by decide +kernel
abbrev cX11_init : ByteArray := prog_10_method_1_code
def yX11_init : MethodName := ⟨RX11, "<init>", "(I)V"⟩
def dkwX11_init_0 : List UInt8 := [42, 27, 183, 0, 1, 177]
abbrev dktX11_init_0 : List UInt8 := dkwX11_init_0 ++ []
theorem dksX11_init_0 : cX11_init.data.toList.drop 0 = dktX11_init_0 := by decide +kernel
theorem dX11_init_0 : decode cX11_init 0 = .ok (.aload_n 0, 1) := dk_42 (dk_at dksX11_init_0 0 rfl rfl)
theorem dX11_init_1 : decode cX11_init 1 = .ok (.iload_n 1, 1) := dk_27 (dk_at dksX11_init_0 1 rfl rfl)
theorem dX11_init_2 : decode cX11_init 2 = .ok (.invokespecial 1, 3) := dk_183 0 1 (dk_at dksX11_init_0 2 rfl rfl)
theorem dX11_init_5 : decode cX11_init 5 = .ok (.return_, 1) := dk_177 (dk_at dksX11_init_0 5 rfl rfl)
abbrev cX11_kind : ByteArray := prog_10_method_2_code
def yX11_kind : MethodName := ⟨RX11, "kind", "()I"⟩
def dkwX11_kind_0 : List UInt8 := [42, 183, 0, 7, 5, 96, 172]
abbrev dktX11_kind_0 : List UInt8 := dkwX11_kind_0 ++ []
theorem dksX11_kind_0 : cX11_kind.data.toList.drop 0 = dktX11_kind_0 := by decide +kernel
theorem dX11_kind_0 : decode cX11_kind 0 = .ok (.aload_n 0, 1) := dk_42 (dk_at dksX11_kind_0 0 rfl rfl)
theorem dX11_kind_1 : decode cX11_kind 1 = .ok (.invokespecial 7, 3) := dk_183 0 7 (dk_at dksX11_kind_0 1 rfl rfl)
theorem dX11_kind_4 : decode cX11_kind 4 = .ok (.iconst 2, 1) := dk_5 (dk_at dksX11_kind_0 4 rfl rfl)
theorem dX11_kind_5 : decode cX11_kind 5 = .ok (.iadd, 1) := dk_96 (dk_at dksX11_kind_0 5 rfl rfl)
theorem dX11_kind_6 : decode cX11_kind 6 = .ok (.ireturn, 1) := dk_172 (dk_at dksX11_kind_0 6 rfl rfl)
abbrev cX11_rows : ByteArray := prog_10_method_3_code
def yX11_rows : MethodName := ⟨RX11, "rows", "(I)I"⟩
def dkwX11_rows_0 : List UInt8 := [42, 27, 183, 0, 11, 27, 96, 172]
abbrev dktX11_rows_0 : List UInt8 := dkwX11_rows_0 ++ []
theorem dksX11_rows_0 : cX11_rows.data.toList.drop 0 = dktX11_rows_0 := by decide +kernel
theorem dX11_rows_0 : decode cX11_rows 0 = .ok (.aload_n 0, 1) := dk_42 (dk_at dksX11_rows_0 0 rfl rfl)
theorem dX11_rows_1 : decode cX11_rows 1 = .ok (.iload_n 1, 1) := dk_27 (dk_at dksX11_rows_0 1 rfl rfl)
theorem dX11_rows_2 : decode cX11_rows 2 = .ok (.invokespecial 11, 3) := dk_183 0 11 (dk_at dksX11_rows_0 2 rfl rfl)
theorem dX11_rows_5 : decode cX11_rows 5 = .ok (.iload_n 1, 1) := dk_27 (dk_at dksX11_rows_0 5 rfl rfl)
theorem dX11_rows_6 : decode cX11_rows 6 = .ok (.iadd, 1) := dk_96 (dk_at dksX11_rows_0 6 rfl rfl)
theorem dX11_rows_7 : decode cX11_rows 7 = .ok (.ireturn, 1) := dk_172 (dk_at dksX11_rows_0 7 rfl rfl)
abbrev cX11_hears : ByteArray := prog_10_method_4_code
def yX11_hears : MethodName := ⟨RX11, "hears", "(I)I"⟩
def dkwX11_hears_0 : List UInt8 := [42, 27, 183, 0, 15, 6, 100, 172]
abbrev dktX11_hears_0 : List UInt8 := dkwX11_hears_0 ++ []
theorem dksX11_hears_0 : cX11_hears.data.toList.drop 0 = dktX11_hears_0 := by decide +kernel
theorem dX11_hears_0 : decode cX11_hears 0 = .ok (.aload_n 0, 1) := dk_42 (dk_at dksX11_hears_0 0 rfl rfl)
theorem dX11_hears_1 : decode cX11_hears 1 = .ok (.iload_n 1, 1) := dk_27 (dk_at dksX11_hears_0 1 rfl rfl)
theorem dX11_hears_2 : decode cX11_hears 2 = .ok (.invokespecial 15, 3) := dk_183 0 15 (dk_at dksX11_hears_0 2 rfl rfl)
theorem dX11_hears_5 : decode cX11_hears 5 = .ok (.iconst 3, 1) := dk_6 (dk_at dksX11_hears_0 5 rfl rfl)
theorem dX11_hears_6 : decode cX11_hears 6 = .ok (.isub, 1) := dk_100 (dk_at dksX11_hears_0 6 rfl rfl)
theorem dX11_hears_7 : decode cX11_hears 7 = .ok (.ireturn, 1) := dk_172 (dk_at dksX11_hears_0 7 rfl rfl)
abbrev cX11_owes : ByteArray := prog_10_method_5_code
def yX11_owes : MethodName := ⟨RX11, "owes", "(II)I"⟩
def dkwX11_owes_0 : List UInt8 := [42, 27, 28, 183, 0, 18, 5, 108, 172]
abbrev dktX11_owes_0 : List UInt8 := dkwX11_owes_0 ++ []
theorem dksX11_owes_0 : cX11_owes.data.toList.drop 0 = dktX11_owes_0 := by decide +kernel
theorem dX11_owes_0 : decode cX11_owes 0 = .ok (.aload_n 0, 1) := dk_42 (dk_at dksX11_owes_0 0 rfl rfl)
theorem dX11_owes_1 : decode cX11_owes 1 = .ok (.iload_n 1, 1) := dk_27 (dk_at dksX11_owes_0 1 rfl rfl)
theorem dX11_owes_2 : decode cX11_owes 2 = .ok (.iload_n 2, 1) := dk_28 (dk_at dksX11_owes_0 2 rfl rfl)
theorem dX11_owes_3 : decode cX11_owes 3 = .ok (.invokespecial 18, 3) := dk_183 0 18 (dk_at dksX11_owes_0 3 rfl rfl)
theorem dX11_owes_6 : decode cX11_owes 6 = .ok (.iconst 2, 1) := dk_5 (dk_at dksX11_owes_0 6 rfl rfl)
theorem dX11_owes_7 : decode cX11_owes 7 = .ok (.idiv, 1) := dk_108 (dk_at dksX11_owes_0 7 rfl rfl)
theorem dX11_owes_8 : decode cX11_owes 8 = .ok (.ireturn, 1) := dk_172 (dk_at dksX11_owes_0 8 rfl rfl)
theorem q90 : (Jvm.Cond.initialized "BoatsCalledIn$Punt") ∈ lw_all := lw_g (lw_at lw_m1 21 rfl) rfl
theorem q140 : (Jvm.Cond.instantiable "BoatsCalledIn$Punt" (1 : Nat)) ∈ lw_all := lw_g (lw_at lw_m1 71 rfl) rfl
theorem q142 : (Jvm.Cond.instanceMethod ({ cls := "BoatsCalledIn$Punt", name := "<init>", desc := "(I)V" } : Jvm.MethodName)) ∈ lw_all := lw_g (lw_at lw_m1 73 rfl) rfl
theorem q143 : (Jvm.Cond.code ({ cls := "BoatsCalledIn$Punt", name := "<init>", desc := "(I)V" } : Jvm.MethodName) prog_10_method_1_code (2 : Nat) (Option.none : Option Jvm.ClassFile.FieldType)) ∈ lw_all := lw_g (lw_at lw_m1 74 rfl) rfl
theorem q144 : (Jvm.Cond.methodLink "BoatsCalledIn$Punt" (1 : Nat) ({ cls := "BoatsCalledIn$Boat", name := "<init>", desc := "(I)V" } : Jvm.MethodName)) ∈ lw_all := lw_g (lw_at lw_m1 75 rfl) rfl
theorem q145 : (Jvm.Cond.lays "BoatsCalledIn$Punt" "BoatsCalledIn$Boat" "number" "I") ∈ lw_all := lw_g (lw_at lw_m1 76 rfl) rfl
theorem q146 : (Jvm.Cond.superclass "BoatsCalledIn$Punt" "BoatsCalledIn$Boat") ∈ lw_all := lw_g (lw_at lw_m1 77 rfl) rfl
theorem q215 : (Jvm.Cond.instanceMethod ({ cls := "BoatsCalledIn$Punt", name := "kind", desc := "()I" } : Jvm.MethodName)) ∈ lw_all := lw_g (lw_at lw_m1 146 rfl) rfl
theorem q216 : (Jvm.Cond.code ({ cls := "BoatsCalledIn$Punt", name := "kind", desc := "()I" } : Jvm.MethodName) prog_10_method_2_code (1 : Nat) (Option.some Jvm.ClassFile.FieldType.int)) ∈ lw_all := lw_g (lw_at lw_m1 147 rfl) rfl
theorem q217 : (Jvm.Cond.methodLink "BoatsCalledIn$Punt" (7 : Nat) ({ cls := "BoatsCalledIn$Boat", name := "kind", desc := "()I" } : Jvm.MethodName)) ∈ lw_all := lw_g (lw_at lw_m1 148 rfl) rfl
theorem q229 : (Jvm.Cond.selects "BoatsCalledIn$Punt" ({ cls := "BoatsCalledIn$Boat", name := "kind", desc := "()I" } : Jvm.MethodName) ({ cls := "BoatsCalledIn$Punt", name := "kind", desc := "()I" } : Jvm.MethodName)) ∈ lw_all := lw_g (lw_at lw_m1 160 rfl) rfl
theorem q239 : (Jvm.Cond.selects "BoatsCalledIn$Punt" ({ cls := "BoatsCalledIn$Boat", name := "heldRows", desc := "(I)I" } : Jvm.MethodName) ({ cls := "BoatsCalledIn$Boat", name := "heldRows", desc := "(I)I" } : Jvm.MethodName)) ∈ lw_all := lw_g (lw_at lw_m1 170 rfl) rfl
theorem q247 : (Jvm.Cond.instanceMethod ({ cls := "BoatsCalledIn$Punt", name := "rows", desc := "(I)I" } : Jvm.MethodName)) ∈ lw_all := lw_g (lw_at lw_m1 178 rfl) rfl
theorem q248 : (Jvm.Cond.code ({ cls := "BoatsCalledIn$Punt", name := "rows", desc := "(I)I" } : Jvm.MethodName) prog_10_method_3_code (2 : Nat) (Option.some Jvm.ClassFile.FieldType.int)) ∈ lw_all := lw_g (lw_at lw_m1 179 rfl) rfl
theorem q249 : (Jvm.Cond.methodLink "BoatsCalledIn$Punt" (11 : Nat) ({ cls := "BoatsCalledIn$Boat", name := "rows", desc := "(I)I" } : Jvm.MethodName)) ∈ lw_all := lw_g (lw_at lw_m1 180 rfl) rfl
theorem q261 : (Jvm.Cond.selects "BoatsCalledIn$Punt" ({ cls := "BoatsCalledIn$Boat", name := "rows", desc := "(I)I" } : Jvm.MethodName) ({ cls := "BoatsCalledIn$Punt", name := "rows", desc := "(I)I" } : Jvm.MethodName)) ∈ lw_all := lw_g (lw_at lw_m1 192 rfl) rfl
theorem q274 : (Jvm.Cond.selects "BoatsCalledIn$Punt" ({ cls := "BoatsCalledIn$Boat", name := "heldHears", desc := "(I)I" } : Jvm.MethodName) ({ cls := "BoatsCalledIn$Boat", name := "heldHears", desc := "(I)I" } : Jvm.MethodName)) ∈ lw_all := lw_g (lw_at lw_m1 205 rfl) rfl
theorem q285 : (Jvm.Cond.instanceMethod ({ cls := "BoatsCalledIn$Punt", name := "hears", desc := "(I)I" } : Jvm.MethodName)) ∈ lw_all := lw_g (lw_at lw_m1 216 rfl) rfl
theorem q286 : (Jvm.Cond.code ({ cls := "BoatsCalledIn$Punt", name := "hears", desc := "(I)I" } : Jvm.MethodName) prog_10_method_4_code (2 : Nat) (Option.some Jvm.ClassFile.FieldType.int)) ∈ lw_all := lw_g (lw_at lw_m1 217 rfl) rfl
theorem q287 : (Jvm.Cond.methodLink "BoatsCalledIn$Punt" (15 : Nat) ({ cls := "BoatsCalledIn$Boat", name := "hears", desc := "(I)I" } : Jvm.MethodName)) ∈ lw_all := lw_g (lw_at lw_m1 218 rfl) rfl
theorem q296 : (Jvm.Cond.selects "BoatsCalledIn$Punt" ({ cls := "BoatsCalledIn$Boat", name := "hears", desc := "(I)I" } : Jvm.MethodName) ({ cls := "BoatsCalledIn$Punt", name := "hears", desc := "(I)I" } : Jvm.MethodName)) ∈ lw_all := lw_g (lw_at lw_m1 227 rfl) rfl
theorem q355 : (Jvm.Cond.selects "BoatsCalledIn$Punt" ({ cls := "BoatsCalledIn$Boat", name := "heldOwes", desc := "(II)I" } : Jvm.MethodName) ({ cls := "BoatsCalledIn$Boat", name := "heldOwes", desc := "(II)I" } : Jvm.MethodName)) ∈ lw_all := lw_g (lw_at lw_m2 46 rfl) rfl
theorem q366 : (Jvm.Cond.instanceMethod ({ cls := "BoatsCalledIn$Punt", name := "owes", desc := "(II)I" } : Jvm.MethodName)) ∈ lw_all := lw_g (lw_at lw_m2 57 rfl) rfl
theorem q367 : (Jvm.Cond.code ({ cls := "BoatsCalledIn$Punt", name := "owes", desc := "(II)I" } : Jvm.MethodName) prog_10_method_5_code (3 : Nat) (Option.some Jvm.ClassFile.FieldType.int)) ∈ lw_all := lw_g (lw_at lw_m2 58 rfl) rfl
theorem q368 : (Jvm.Cond.methodLink "BoatsCalledIn$Punt" (18 : Nat) ({ cls := "BoatsCalledIn$Boat", name := "owes", desc := "(II)I" } : Jvm.MethodName)) ∈ lw_all := lw_g (lw_at lw_m2 59 rfl) rfl
theorem q376 : (Jvm.Cond.selects "BoatsCalledIn$Punt" ({ cls := "BoatsCalledIn$Boat", name := "owes", desc := "(II)I" } : Jvm.MethodName) ({ cls := "BoatsCalledIn$Punt", name := "owes", desc := "(II)I" } : Jvm.MethodName)) ∈ lw_all := lw_g (lw_at lw_m2 67 rfl) rfl
theorem q1545 : (Jvm.Cond.sameMethod "BoatsCalledIn$Punt" "BoatsCalledIn$Punt" "kind" "()I") ∈ lw_all := lw_g (lw_at lw_m7 36 rfl) rfl
theorem q1548 : (Jvm.Cond.sameMethod "BoatsCalledIn$Punt" "BoatsCalledIn$Punt" "hears" "(I)I") ∈ lw_all := lw_g (lw_at lw_m7 39 rfl) rfl
theorem q1549 : (Jvm.Cond.sameMethod "BoatsCalledIn$Punt" "BoatsCalledIn$Punt" "owes" "(II)I") ∈ lw_all := lw_g (lw_at lw_m7 40 rfl) rfl
theorem q1559 : (Jvm.Cond.castable "BoatsCalledIn$Punt" "BoatsCalledIn$Boat") ∈ lw_tbl := lw_at lw_m7 50 rfl
theorem in_X11 : ∀ w ∈ wsX110, w ∈ lw_all := lw_in wsX110 [145] (by decide +kernel) (by decide +kernel)
/-! BoatsCalledIn$Leaky -/
set_option maxRecDepth 100000
def RX12 : String := "BoatsCalledIn$Leaky"
def TX12 : u_T := fun k => match k with
  | _ => ("BoatsCalledIn$Boat", "number", "I", false)
def tyX12 : Nat → FieldType := fun k => match k with
  | _ => .int
abbrev wsX120 : List Cond := u_ws RX12 TX12 1
theorem nmX12 : ∀ a, a < 1 → ∀ b, b < 1 → a ≠ b → (TX12 a).2.1 ≠ (TX12 b).2.1 := by decide +kernel
theorem tyX12_ok : ∀ k, k < 1 → parseFieldDescriptor (TX12 k).2.2.1 = some (tyX12 k) := by decide +kernel
abbrev cX12_init : ByteArray := prog_5_method_1_code
def yX12_init : MethodName := ⟨RX12, "<init>", "(I)V"⟩
def dkwX12_init_0 : List UInt8 := [42, 27, 183, 0, 1, 177]
abbrev dktX12_init_0 : List UInt8 := dkwX12_init_0 ++ []
theorem dksX12_init_0 : cX12_init.data.toList.drop 0 = dktX12_init_0 := by decide +kernel
theorem dX12_init_0 : decode cX12_init 0 = .ok (.aload_n 0, 1) := dk_42 (dk_at dksX12_init_0 0 rfl rfl)
theorem dX12_init_1 : decode cX12_init 1 = .ok (.iload_n 1, 1) := dk_27 (dk_at dksX12_init_0 1 rfl rfl)
theorem dX12_init_2 : decode cX12_init 2 = .ok (.invokespecial 1, 3) := dk_183 0 1 (dk_at dksX12_init_0 2 rfl rfl)
theorem dX12_init_5 : decode cX12_init 5 = .ok (.return_, 1) := dk_177 (dk_at dksX12_init_0 5 rfl rfl)
abbrev cX12_kind : ByteArray := prog_5_method_2_code
def yX12_kind : MethodName := ⟨RX12, "kind", "()I"⟩
def dkwX12_kind_0 : List UInt8 := [42, 183, 0, 7, 5, 96, 172]
abbrev dktX12_kind_0 : List UInt8 := dkwX12_kind_0 ++ []
theorem dksX12_kind_0 : cX12_kind.data.toList.drop 0 = dktX12_kind_0 := by decide +kernel
theorem dX12_kind_0 : decode cX12_kind 0 = .ok (.aload_n 0, 1) := dk_42 (dk_at dksX12_kind_0 0 rfl rfl)
theorem dX12_kind_1 : decode cX12_kind 1 = .ok (.invokespecial 7, 3) := dk_183 0 7 (dk_at dksX12_kind_0 1 rfl rfl)
theorem dX12_kind_4 : decode cX12_kind 4 = .ok (.iconst 2, 1) := dk_5 (dk_at dksX12_kind_0 4 rfl rfl)
theorem dX12_kind_5 : decode cX12_kind 5 = .ok (.iadd, 1) := dk_96 (dk_at dksX12_kind_0 5 rfl rfl)
theorem dX12_kind_6 : decode cX12_kind 6 = .ok (.ireturn, 1) := dk_172 (dk_at dksX12_kind_0 6 rfl rfl)
abbrev cX12_rows : ByteArray := prog_5_method_3_code
def yX12_rows : MethodName := ⟨RX12, "rows", "(I)I"⟩
def dkwX12_rows_0 : List UInt8 := [42, 27, 183, 0, 11, 42, 180, 0, 15, 96, 172]
abbrev dktX12_rows_0 : List UInt8 := dkwX12_rows_0 ++ []
theorem dksX12_rows_0 : cX12_rows.data.toList.drop 0 = dktX12_rows_0 := by decide +kernel
theorem dX12_rows_0 : decode cX12_rows 0 = .ok (.aload_n 0, 1) := dk_42 (dk_at dksX12_rows_0 0 rfl rfl)
theorem dX12_rows_1 : decode cX12_rows 1 = .ok (.iload_n 1, 1) := dk_27 (dk_at dksX12_rows_0 1 rfl rfl)
theorem dX12_rows_2 : decode cX12_rows 2 = .ok (.invokespecial 11, 3) := dk_183 0 11 (dk_at dksX12_rows_0 2 rfl rfl)
theorem dX12_rows_5 : decode cX12_rows 5 = .ok (.aload_n 0, 1) := dk_42 (dk_at dksX12_rows_0 5 rfl rfl)
theorem dX12_rows_6 : decode cX12_rows 6 = .ok (.getfield 15, 3) := dk_180 0 15 (dk_at dksX12_rows_0 6 rfl rfl)
theorem dX12_rows_9 : decode cX12_rows 9 = .ok (.iadd, 1) := dk_96 (dk_at dksX12_rows_0 9 rfl rfl)
theorem dX12_rows_10 : decode cX12_rows 10 = .ok (.ireturn, 1) := dk_172 (dk_at dksX12_rows_0 10 rfl rfl)
abbrev cX12_owes : ByteArray := prog_5_method_4_code
def yX12_owes : MethodName := ⟨RX12, "owes", "(II)I"⟩
theorem dX12_owes_0 : decode cX12_owes 0 = .ok (.iconst 0, 1) := by decide +kernel
theorem dX12_owes_1 : decode cX12_owes 1 = .ok (.ireturn, 1) := by decide +kernel
theorem q91 : (Jvm.Cond.initialized "BoatsCalledIn$Leaky") ∈ lw_all := lw_g (lw_at lw_m1 22 rfl) rfl
theorem q129 : (Jvm.Cond.fieldLink "BoatsCalledIn$Leaky" (15 : Nat) "BoatsCalledIn$Leaky" "number" "I") ∈ lw_all := lw_g (lw_at lw_m1 60 rfl) rfl
theorem q130 : (Jvm.Cond.sameField "BoatsCalledIn$Leaky" "BoatsCalledIn$Boat" "number" "I") ∈ lw_all := lw_g (lw_at lw_m1 61 rfl) rfl
theorem q148 : (Jvm.Cond.instantiable "BoatsCalledIn$Leaky" (1 : Nat)) ∈ lw_all := lw_g (lw_at lw_m1 79 rfl) rfl
theorem q150 : (Jvm.Cond.instanceMethod ({ cls := "BoatsCalledIn$Leaky", name := "<init>", desc := "(I)V" } : Jvm.MethodName)) ∈ lw_all := lw_g (lw_at lw_m1 81 rfl) rfl
theorem q151 : (Jvm.Cond.code ({ cls := "BoatsCalledIn$Leaky", name := "<init>", desc := "(I)V" } : Jvm.MethodName) prog_5_method_1_code (2 : Nat) (Option.none : Option Jvm.ClassFile.FieldType)) ∈ lw_all := lw_g (lw_at lw_m1 82 rfl) rfl
theorem q152 : (Jvm.Cond.methodLink "BoatsCalledIn$Leaky" (1 : Nat) ({ cls := "BoatsCalledIn$Skiff", name := "<init>", desc := "(I)V" } : Jvm.MethodName)) ∈ lw_all := lw_g (lw_at lw_m1 83 rfl) rfl
theorem q153 : (Jvm.Cond.lays "BoatsCalledIn$Leaky" "BoatsCalledIn$Boat" "number" "I") ∈ lw_all := lw_g (lw_at lw_m1 84 rfl) rfl
theorem q154 : (Jvm.Cond.superclass "BoatsCalledIn$Leaky" "BoatsCalledIn$Skiff") ∈ lw_all := lw_g (lw_at lw_m1 85 rfl) rfl
theorem q218 : (Jvm.Cond.selects "BoatsCalledIn$Leaky" ({ cls := "BoatsCalledIn$Boat", name := "kind", desc := "()I" } : Jvm.MethodName) ({ cls := "BoatsCalledIn$Leaky", name := "kind", desc := "()I" } : Jvm.MethodName)) ∈ lw_all := lw_g (lw_at lw_m1 149 rfl) rfl
theorem q219 : (Jvm.Cond.instanceMethod ({ cls := "BoatsCalledIn$Leaky", name := "kind", desc := "()I" } : Jvm.MethodName)) ∈ lw_all := lw_g (lw_at lw_m1 150 rfl) rfl
theorem q220 : (Jvm.Cond.code ({ cls := "BoatsCalledIn$Leaky", name := "kind", desc := "()I" } : Jvm.MethodName) prog_5_method_2_code (1 : Nat) (Option.some Jvm.ClassFile.FieldType.int)) ∈ lw_all := lw_g (lw_at lw_m1 151 rfl) rfl
theorem q221 : (Jvm.Cond.methodLink "BoatsCalledIn$Leaky" (7 : Nat) ({ cls := "BoatsCalledIn$Skiff", name := "kind", desc := "()I" } : Jvm.MethodName)) ∈ lw_all := lw_g (lw_at lw_m1 152 rfl) rfl
theorem q237 : (Jvm.Cond.selects "BoatsCalledIn$Leaky" ({ cls := "BoatsCalledIn$Boat", name := "heldRows", desc := "(I)I" } : Jvm.MethodName) ({ cls := "BoatsCalledIn$Boat", name := "heldRows", desc := "(I)I" } : Jvm.MethodName)) ∈ lw_all := lw_g (lw_at lw_m1 168 rfl) rfl
theorem q250 : (Jvm.Cond.selects "BoatsCalledIn$Leaky" ({ cls := "BoatsCalledIn$Boat", name := "rows", desc := "(I)I" } : Jvm.MethodName) ({ cls := "BoatsCalledIn$Leaky", name := "rows", desc := "(I)I" } : Jvm.MethodName)) ∈ lw_all := lw_g (lw_at lw_m1 181 rfl) rfl
theorem q251 : (Jvm.Cond.instanceMethod ({ cls := "BoatsCalledIn$Leaky", name := "rows", desc := "(I)I" } : Jvm.MethodName)) ∈ lw_all := lw_g (lw_at lw_m1 182 rfl) rfl
theorem q252 : (Jvm.Cond.code ({ cls := "BoatsCalledIn$Leaky", name := "rows", desc := "(I)I" } : Jvm.MethodName) prog_5_method_3_code (2 : Nat) (Option.some Jvm.ClassFile.FieldType.int)) ∈ lw_all := lw_g (lw_at lw_m1 183 rfl) rfl
theorem q253 : (Jvm.Cond.methodLink "BoatsCalledIn$Leaky" (11 : Nat) ({ cls := "BoatsCalledIn$Skiff", name := "rows", desc := "(I)I" } : Jvm.MethodName)) ∈ lw_all := lw_g (lw_at lw_m1 184 rfl) rfl
theorem q272 : (Jvm.Cond.selects "BoatsCalledIn$Leaky" ({ cls := "BoatsCalledIn$Boat", name := "heldHears", desc := "(I)I" } : Jvm.MethodName) ({ cls := "BoatsCalledIn$Boat", name := "heldHears", desc := "(I)I" } : Jvm.MethodName)) ∈ lw_all := lw_g (lw_at lw_m1 203 rfl) rfl
theorem q288 : (Jvm.Cond.selects "BoatsCalledIn$Leaky" ({ cls := "BoatsCalledIn$Boat", name := "hears", desc := "(I)I" } : Jvm.MethodName) ({ cls := "BoatsCalledIn$Skiff", name := "hears", desc := "(I)I" } : Jvm.MethodName)) ∈ lw_all := lw_g (lw_at lw_m1 219 rfl) rfl
theorem q353 : (Jvm.Cond.selects "BoatsCalledIn$Leaky" ({ cls := "BoatsCalledIn$Boat", name := "heldOwes", desc := "(II)I" } : Jvm.MethodName) ({ cls := "BoatsCalledIn$Boat", name := "heldOwes", desc := "(II)I" } : Jvm.MethodName)) ∈ lw_all := lw_g (lw_at lw_m2 44 rfl) rfl
theorem q369 : (Jvm.Cond.selects "BoatsCalledIn$Leaky" ({ cls := "BoatsCalledIn$Boat", name := "owes", desc := "(II)I" } : Jvm.MethodName) ({ cls := "BoatsCalledIn$Leaky", name := "owes", desc := "(II)I" } : Jvm.MethodName)) ∈ lw_all := lw_g (lw_at lw_m2 60 rfl) rfl
theorem q370 : (Jvm.Cond.instanceMethod ({ cls := "BoatsCalledIn$Leaky", name := "owes", desc := "(II)I" } : Jvm.MethodName)) ∈ lw_all := lw_g (lw_at lw_m2 61 rfl) rfl
theorem q371 : (Jvm.Cond.code ({ cls := "BoatsCalledIn$Leaky", name := "owes", desc := "(II)I" } : Jvm.MethodName) prog_5_method_4_code (3 : Nat) (Option.some Jvm.ClassFile.FieldType.int)) ∈ lw_all := lw_g (lw_at lw_m2 62 rfl) rfl
theorem q1552 : (Jvm.Cond.castable "BoatsCalledIn$Leaky" "BoatsCalledIn$Skiff") ∈ lw_tbl := lw_at lw_m7 43 rfl
theorem q1560 : (Jvm.Cond.castable "BoatsCalledIn$Leaky" "BoatsCalledIn$Boat") ∈ lw_tbl := lw_at lw_m7 51 rfl
theorem in_X12 : ∀ w ∈ wsX120, w ∈ lw_all := lw_in wsX120 [153] (by decide +kernel) (by decide +kernel)
/-! BoatsCalledIn$Deaf -/
set_option maxRecDepth 100000
def RX13 : String := "BoatsCalledIn$Deaf"
def TX13 : u_T := fun k => match k with
  | _ => ("BoatsCalledIn$Boat", "number", "I", false)
def tyX13 : Nat → FieldType := fun k => match k with
  | _ => .int
abbrev wsX130 : List Cond := u_ws RX13 TX13 1
theorem nmX13 : ∀ a, a < 1 → ∀ b, b < 1 → a ≠ b → (TX13 a).2.1 ≠ (TX13 b).2.1 := by decide +kernel
theorem tyX13_ok : ∀ k, k < 1 → parseFieldDescriptor (TX13 k).2.2.1 = some (tyX13 k) := by decide +kernel
abbrev cX13_init : ByteArray := prog_3_method_1_code
def yX13_init : MethodName := ⟨RX13, "<init>", "(I)V"⟩
def dkwX13_init_0 : List UInt8 := [42, 27, 183, 0, 1, 177]
abbrev dktX13_init_0 : List UInt8 := dkwX13_init_0 ++ []
theorem dksX13_init_0 : cX13_init.data.toList.drop 0 = dktX13_init_0 := by decide +kernel
theorem dX13_init_0 : decode cX13_init 0 = .ok (.aload_n 0, 1) := dk_42 (dk_at dksX13_init_0 0 rfl rfl)
theorem dX13_init_1 : decode cX13_init 1 = .ok (.iload_n 1, 1) := dk_27 (dk_at dksX13_init_0 1 rfl rfl)
theorem dX13_init_2 : decode cX13_init 2 = .ok (.invokespecial 1, 3) := dk_183 0 1 (dk_at dksX13_init_0 2 rfl rfl)
theorem dX13_init_5 : decode cX13_init 5 = .ok (.return_, 1) := dk_177 (dk_at dksX13_init_0 5 rfl rfl)
abbrev cX13_kind : ByteArray := prog_3_method_2_code
def yX13_kind : MethodName := ⟨RX13, "kind", "()I"⟩
def dkwX13_kind_0 : List UInt8 := [42, 183, 0, 7, 5, 96, 172]
abbrev dktX13_kind_0 : List UInt8 := dkwX13_kind_0 ++ []
theorem dksX13_kind_0 : cX13_kind.data.toList.drop 0 = dktX13_kind_0 := by decide +kernel
theorem dX13_kind_0 : decode cX13_kind 0 = .ok (.aload_n 0, 1) := dk_42 (dk_at dksX13_kind_0 0 rfl rfl)
theorem dX13_kind_1 : decode cX13_kind 1 = .ok (.invokespecial 7, 3) := dk_183 0 7 (dk_at dksX13_kind_0 1 rfl rfl)
theorem dX13_kind_4 : decode cX13_kind 4 = .ok (.iconst 2, 1) := dk_5 (dk_at dksX13_kind_0 4 rfl rfl)
theorem dX13_kind_5 : decode cX13_kind 5 = .ok (.iadd, 1) := dk_96 (dk_at dksX13_kind_0 5 rfl rfl)
theorem dX13_kind_6 : decode cX13_kind 6 = .ok (.ireturn, 1) := dk_172 (dk_at dksX13_kind_0 6 rfl rfl)
abbrev cX13_hears : ByteArray := prog_3_method_3_code
def yX13_hears : MethodName := ⟨RX13, "hears", "(I)I"⟩
def dkwX13_hears_0 : List UInt8 := [42, 27, 183, 0, 11, 5, 108, 172]
abbrev dktX13_hears_0 : List UInt8 := dkwX13_hears_0 ++ []
theorem dksX13_hears_0 : cX13_hears.data.toList.drop 0 = dktX13_hears_0 := by decide +kernel
theorem dX13_hears_0 : decode cX13_hears 0 = .ok (.aload_n 0, 1) := dk_42 (dk_at dksX13_hears_0 0 rfl rfl)
theorem dX13_hears_1 : decode cX13_hears 1 = .ok (.iload_n 1, 1) := dk_27 (dk_at dksX13_hears_0 1 rfl rfl)
theorem dX13_hears_2 : decode cX13_hears 2 = .ok (.invokespecial 11, 3) := dk_183 0 11 (dk_at dksX13_hears_0 2 rfl rfl)
theorem dX13_hears_5 : decode cX13_hears 5 = .ok (.iconst 2, 1) := dk_5 (dk_at dksX13_hears_0 5 rfl rfl)
theorem dX13_hears_6 : decode cX13_hears 6 = .ok (.idiv, 1) := dk_108 (dk_at dksX13_hears_0 6 rfl rfl)
theorem dX13_hears_7 : decode cX13_hears 7 = .ok (.ireturn, 1) := dk_172 (dk_at dksX13_hears_0 7 rfl rfl)
abbrev cX13_owes : ByteArray := prog_3_method_4_code
def yX13_owes : MethodName := ⟨RX13, "owes", "(II)I"⟩
def dkwX13_owes_0 : List UInt8 := [42, 27, 28, 183, 0, 15, 5, 96, 172]
abbrev dktX13_owes_0 : List UInt8 := dkwX13_owes_0 ++ []
theorem dksX13_owes_0 : cX13_owes.data.toList.drop 0 = dktX13_owes_0 := by decide +kernel
theorem dX13_owes_0 : decode cX13_owes 0 = .ok (.aload_n 0, 1) := dk_42 (dk_at dksX13_owes_0 0 rfl rfl)
theorem dX13_owes_1 : decode cX13_owes 1 = .ok (.iload_n 1, 1) := dk_27 (dk_at dksX13_owes_0 1 rfl rfl)
theorem dX13_owes_2 : decode cX13_owes 2 = .ok (.iload_n 2, 1) := dk_28 (dk_at dksX13_owes_0 2 rfl rfl)
theorem dX13_owes_3 : decode cX13_owes 3 = .ok (.invokespecial 15, 3) := dk_183 0 15 (dk_at dksX13_owes_0 3 rfl rfl)
theorem dX13_owes_6 : decode cX13_owes 6 = .ok (.iconst 2, 1) := dk_5 (dk_at dksX13_owes_0 6 rfl rfl)
theorem dX13_owes_7 : decode cX13_owes 7 = .ok (.iadd, 1) := dk_96 (dk_at dksX13_owes_0 7 rfl rfl)
theorem dX13_owes_8 : decode cX13_owes 8 = .ok (.ireturn, 1) := dk_172 (dk_at dksX13_owes_0 8 rfl rfl)
theorem q92 : (Jvm.Cond.initialized "BoatsCalledIn$Deaf") ∈ lw_all := lw_g (lw_at lw_m1 23 rfl) rfl
theorem q156 : (Jvm.Cond.instantiable "BoatsCalledIn$Deaf" (1 : Nat)) ∈ lw_all := lw_g (lw_at lw_m1 87 rfl) rfl
theorem q158 : (Jvm.Cond.instanceMethod ({ cls := "BoatsCalledIn$Deaf", name := "<init>", desc := "(I)V" } : Jvm.MethodName)) ∈ lw_all := lw_g (lw_at lw_m1 89 rfl) rfl
theorem q159 : (Jvm.Cond.code ({ cls := "BoatsCalledIn$Deaf", name := "<init>", desc := "(I)V" } : Jvm.MethodName) prog_3_method_1_code (2 : Nat) (Option.none : Option Jvm.ClassFile.FieldType)) ∈ lw_all := lw_g (lw_at lw_m1 90 rfl) rfl
theorem q160 : (Jvm.Cond.methodLink "BoatsCalledIn$Deaf" (1 : Nat) ({ cls := "BoatsCalledIn$Punt", name := "<init>", desc := "(I)V" } : Jvm.MethodName)) ∈ lw_all := lw_g (lw_at lw_m1 91 rfl) rfl
theorem q161 : (Jvm.Cond.lays "BoatsCalledIn$Deaf" "BoatsCalledIn$Boat" "number" "I") ∈ lw_all := lw_g (lw_at lw_m1 92 rfl) rfl
theorem q162 : (Jvm.Cond.superclass "BoatsCalledIn$Deaf" "BoatsCalledIn$Punt") ∈ lw_all := lw_g (lw_at lw_m1 93 rfl) rfl
theorem q211 : (Jvm.Cond.selects "BoatsCalledIn$Deaf" ({ cls := "BoatsCalledIn$Boat", name := "kind", desc := "()I" } : Jvm.MethodName) ({ cls := "BoatsCalledIn$Deaf", name := "kind", desc := "()I" } : Jvm.MethodName)) ∈ lw_all := lw_g (lw_at lw_m1 142 rfl) rfl
theorem q212 : (Jvm.Cond.instanceMethod ({ cls := "BoatsCalledIn$Deaf", name := "kind", desc := "()I" } : Jvm.MethodName)) ∈ lw_all := lw_g (lw_at lw_m1 143 rfl) rfl
theorem q213 : (Jvm.Cond.code ({ cls := "BoatsCalledIn$Deaf", name := "kind", desc := "()I" } : Jvm.MethodName) prog_3_method_2_code (1 : Nat) (Option.some Jvm.ClassFile.FieldType.int)) ∈ lw_all := lw_g (lw_at lw_m1 144 rfl) rfl
theorem q214 : (Jvm.Cond.methodLink "BoatsCalledIn$Deaf" (7 : Nat) ({ cls := "BoatsCalledIn$Punt", name := "kind", desc := "()I" } : Jvm.MethodName)) ∈ lw_all := lw_g (lw_at lw_m1 145 rfl) rfl
theorem q236 : (Jvm.Cond.selects "BoatsCalledIn$Deaf" ({ cls := "BoatsCalledIn$Boat", name := "heldRows", desc := "(I)I" } : Jvm.MethodName) ({ cls := "BoatsCalledIn$Boat", name := "heldRows", desc := "(I)I" } : Jvm.MethodName)) ∈ lw_all := lw_g (lw_at lw_m1 167 rfl) rfl
theorem q246 : (Jvm.Cond.selects "BoatsCalledIn$Deaf" ({ cls := "BoatsCalledIn$Boat", name := "rows", desc := "(I)I" } : Jvm.MethodName) ({ cls := "BoatsCalledIn$Punt", name := "rows", desc := "(I)I" } : Jvm.MethodName)) ∈ lw_all := lw_g (lw_at lw_m1 177 rfl) rfl
theorem q271 : (Jvm.Cond.selects "BoatsCalledIn$Deaf" ({ cls := "BoatsCalledIn$Boat", name := "heldHears", desc := "(I)I" } : Jvm.MethodName) ({ cls := "BoatsCalledIn$Boat", name := "heldHears", desc := "(I)I" } : Jvm.MethodName)) ∈ lw_all := lw_g (lw_at lw_m1 202 rfl) rfl
theorem q281 : (Jvm.Cond.selects "BoatsCalledIn$Deaf" ({ cls := "BoatsCalledIn$Boat", name := "hears", desc := "(I)I" } : Jvm.MethodName) ({ cls := "BoatsCalledIn$Deaf", name := "hears", desc := "(I)I" } : Jvm.MethodName)) ∈ lw_all := lw_g (lw_at lw_m1 212 rfl) rfl
theorem q282 : (Jvm.Cond.instanceMethod ({ cls := "BoatsCalledIn$Deaf", name := "hears", desc := "(I)I" } : Jvm.MethodName)) ∈ lw_all := lw_g (lw_at lw_m1 213 rfl) rfl
theorem q283 : (Jvm.Cond.code ({ cls := "BoatsCalledIn$Deaf", name := "hears", desc := "(I)I" } : Jvm.MethodName) prog_3_method_3_code (2 : Nat) (Option.some Jvm.ClassFile.FieldType.int)) ∈ lw_all := lw_g (lw_at lw_m1 214 rfl) rfl
theorem q284 : (Jvm.Cond.methodLink "BoatsCalledIn$Deaf" (11 : Nat) ({ cls := "BoatsCalledIn$Punt", name := "hears", desc := "(I)I" } : Jvm.MethodName)) ∈ lw_all := lw_g (lw_at lw_m1 215 rfl) rfl
theorem q352 : (Jvm.Cond.selects "BoatsCalledIn$Deaf" ({ cls := "BoatsCalledIn$Boat", name := "heldOwes", desc := "(II)I" } : Jvm.MethodName) ({ cls := "BoatsCalledIn$Boat", name := "heldOwes", desc := "(II)I" } : Jvm.MethodName)) ∈ lw_all := lw_g (lw_at lw_m2 43 rfl) rfl
theorem q362 : (Jvm.Cond.selects "BoatsCalledIn$Deaf" ({ cls := "BoatsCalledIn$Boat", name := "owes", desc := "(II)I" } : Jvm.MethodName) ({ cls := "BoatsCalledIn$Deaf", name := "owes", desc := "(II)I" } : Jvm.MethodName)) ∈ lw_all := lw_g (lw_at lw_m2 53 rfl) rfl
theorem q363 : (Jvm.Cond.instanceMethod ({ cls := "BoatsCalledIn$Deaf", name := "owes", desc := "(II)I" } : Jvm.MethodName)) ∈ lw_all := lw_g (lw_at lw_m2 54 rfl) rfl
theorem q364 : (Jvm.Cond.code ({ cls := "BoatsCalledIn$Deaf", name := "owes", desc := "(II)I" } : Jvm.MethodName) prog_3_method_4_code (3 : Nat) (Option.some Jvm.ClassFile.FieldType.int)) ∈ lw_all := lw_g (lw_at lw_m2 55 rfl) rfl
theorem q365 : (Jvm.Cond.methodLink "BoatsCalledIn$Deaf" (15 : Nat) ({ cls := "BoatsCalledIn$Punt", name := "owes", desc := "(II)I" } : Jvm.MethodName)) ∈ lw_all := lw_g (lw_at lw_m2 56 rfl) rfl
theorem q1553 : (Jvm.Cond.castable "BoatsCalledIn$Deaf" "BoatsCalledIn$Punt") ∈ lw_tbl := lw_at lw_m7 44 rfl
theorem q1561 : (Jvm.Cond.castable "BoatsCalledIn$Deaf" "BoatsCalledIn$Boat") ∈ lw_tbl := lw_at lw_m7 52 rfl
theorem in_X13 : ∀ w ∈ wsX130, w ∈ lw_all := lw_in wsX130 [161] (by decide +kernel) (by decide +kernel)
/-! BoatsCalledIn$Lovers -/
set_option maxRecDepth 100000
def RX14 : String := "BoatsCalledIn$Lovers"
def TX14 : u_T := fun k => match k with
  | _ => ("BoatsCalledIn$Boat", "number", "I", false)
def tyX14 : Nat → FieldType := fun k => match k with
  | _ => .int
abbrev wsX140 : List Cond := u_ws RX14 TX14 1
theorem nmX14 : ∀ a, a < 1 → ∀ b, b < 1 → a ≠ b → (TX14 a).2.1 ≠ (TX14 b).2.1 := by decide +kernel
theorem tyX14_ok : ∀ k, k < 1 → parseFieldDescriptor (TX14 k).2.2.1 = some (tyX14 k) := by decide +kernel
abbrev cX14_init : ByteArray := prog_6_method_1_code
def yX14_init : MethodName := ⟨RX14, "<init>", "(I)V"⟩
def dkwX14_init_0 : List UInt8 := [42, 27, 183, 0, 1, 177]
abbrev dktX14_init_0 : List UInt8 := dkwX14_init_0 ++ []
theorem dksX14_init_0 : cX14_init.data.toList.drop 0 = dktX14_init_0 := by decide +kernel
theorem dX14_init_0 : decode cX14_init 0 = .ok (.aload_n 0, 1) := dk_42 (dk_at dksX14_init_0 0 rfl rfl)
theorem dX14_init_1 : decode cX14_init 1 = .ok (.iload_n 1, 1) := dk_27 (dk_at dksX14_init_0 1 rfl rfl)
theorem dX14_init_2 : decode cX14_init 2 = .ok (.invokespecial 1, 3) := dk_183 0 1 (dk_at dksX14_init_0 2 rfl rfl)
theorem dX14_init_5 : decode cX14_init 5 = .ok (.return_, 1) := dk_177 (dk_at dksX14_init_0 5 rfl rfl)
abbrev cX14_kind : ByteArray := prog_6_method_2_code
def yX14_kind : MethodName := ⟨RX14, "kind", "()I"⟩
def dkwX14_kind_0 : List UInt8 := [42, 183, 0, 7, 8, 96, 172]
abbrev dktX14_kind_0 : List UInt8 := dkwX14_kind_0 ++ []
theorem dksX14_kind_0 : cX14_kind.data.toList.drop 0 = dktX14_kind_0 := by decide +kernel
theorem dX14_kind_0 : decode cX14_kind 0 = .ok (.aload_n 0, 1) := dk_42 (dk_at dksX14_kind_0 0 rfl rfl)
theorem dX14_kind_1 : decode cX14_kind 1 = .ok (.invokespecial 7, 3) := dk_183 0 7 (dk_at dksX14_kind_0 1 rfl rfl)
theorem dX14_kind_4 : decode cX14_kind 4 = .ok (.iconst 5, 1) := dk_8 (dk_at dksX14_kind_0 4 rfl rfl)
theorem dX14_kind_5 : decode cX14_kind 5 = .ok (.iadd, 1) := dk_96 (dk_at dksX14_kind_0 5 rfl rfl)
theorem dX14_kind_6 : decode cX14_kind 6 = .ok (.ireturn, 1) := dk_172 (dk_at dksX14_kind_0 6 rfl rfl)
abbrev cX14_rows : ByteArray := prog_6_method_3_code
def yX14_rows : MethodName := ⟨RX14, "rows", "(I)I"⟩
def dkwX14_rows_0 : List UInt8 := [5, 42, 27, 183, 0, 11, 104, 172]
abbrev dktX14_rows_0 : List UInt8 := dkwX14_rows_0 ++ []
theorem dksX14_rows_0 : cX14_rows.data.toList.drop 0 = dktX14_rows_0 := by decide +kernel
theorem dX14_rows_0 : decode cX14_rows 0 = .ok (.iconst 2, 1) := dk_5 (dk_at dksX14_rows_0 0 rfl rfl)
theorem dX14_rows_1 : decode cX14_rows 1 = .ok (.aload_n 0, 1) := dk_42 (dk_at dksX14_rows_0 1 rfl rfl)
theorem dX14_rows_2 : decode cX14_rows 2 = .ok (.iload_n 1, 1) := dk_27 (dk_at dksX14_rows_0 2 rfl rfl)
theorem dX14_rows_3 : decode cX14_rows 3 = .ok (.invokespecial 11, 3) := dk_183 0 11 (dk_at dksX14_rows_0 3 rfl rfl)
theorem dX14_rows_6 : decode cX14_rows 6 = .ok (.imul, 1) := dk_104 (dk_at dksX14_rows_0 6 rfl rfl)
theorem dX14_rows_7 : decode cX14_rows 7 = .ok (.ireturn, 1) := dk_172 (dk_at dksX14_rows_0 7 rfl rfl)
abbrev cX14_hears : ByteArray := prog_6_method_4_code
def yX14_hears : MethodName := ⟨RX14, "hears", "(I)I"⟩
def dkwX14_hears_0 : List UInt8 := [42, 180, 0, 15, 5, 112, 4, 160, 0, 7, 3, 167, 0, 8, 42, 27, 183, 0, 21, 172]
abbrev dktX14_hears_0 : List UInt8 := dkwX14_hears_0 ++ []
theorem dksX14_hears_0 : cX14_hears.data.toList.drop 0 = dktX14_hears_0 := by decide +kernel
theorem dX14_hears_0 : decode cX14_hears 0 = .ok (.aload_n 0, 1) := dk_42 (dk_at dksX14_hears_0 0 rfl rfl)
theorem dX14_hears_1 : decode cX14_hears 1 = .ok (.getfield 15, 3) := dk_180 0 15 (dk_at dksX14_hears_0 1 rfl rfl)
theorem dX14_hears_4 : decode cX14_hears 4 = .ok (.iconst 2, 1) := dk_5 (dk_at dksX14_hears_0 4 rfl rfl)
theorem dX14_hears_5 : decode cX14_hears 5 = .ok (.irem, 1) := dk_112 (dk_at dksX14_hears_0 5 rfl rfl)
theorem dX14_hears_6 : decode cX14_hears 6 = .ok (.iconst 1, 1) := dk_4 (dk_at dksX14_hears_0 6 rfl rfl)
theorem dX14_hears_7 : decode cX14_hears 7 = .ok (.if_icmp .ne 7, 3) := dk_160 0 7 (dk_at dksX14_hears_0 7 rfl rfl)
theorem dX14_hears_10 : decode cX14_hears 10 = .ok (.iconst 0, 1) := dk_3 (dk_at dksX14_hears_0 10 rfl rfl)
theorem dX14_hears_11 : decode cX14_hears 11 = .ok (.goto 8, 3) := dk_167 0 8 (dk_at dksX14_hears_0 11 rfl rfl)
theorem dX14_hears_14 : decode cX14_hears 14 = .ok (.aload_n 0, 1) := dk_42 (dk_at dksX14_hears_0 14 rfl rfl)
theorem dX14_hears_15 : decode cX14_hears 15 = .ok (.iload_n 1, 1) := dk_27 (dk_at dksX14_hears_0 15 rfl rfl)
theorem dX14_hears_16 : decode cX14_hears 16 = .ok (.invokespecial 21, 3) := dk_183 0 21 (dk_at dksX14_hears_0 16 rfl rfl)
theorem dX14_hears_19 : decode cX14_hears 19 = .ok (.ireturn, 1) := dk_172 (dk_at dksX14_hears_0 19 rfl rfl)
abbrev cX14_owes : ByteArray := prog_6_method_5_code
def yX14_owes : MethodName := ⟨RX14, "owes", "(II)I"⟩
def dkwX14_owes_0 : List UInt8 := [42, 27, 28, 183, 0, 24, 62, 29, 158, 0, 12, 29, 42, 180, 0, 15, 96, 167, 0, 4, 3, 172]
abbrev dktX14_owes_0 : List UInt8 := dkwX14_owes_0 ++ []
theorem dksX14_owes_0 : cX14_owes.data.toList.drop 0 = dktX14_owes_0 := by decide +kernel
theorem dX14_owes_0 : decode cX14_owes 0 = .ok (.aload_n 0, 1) := dk_42 (dk_at dksX14_owes_0 0 rfl rfl)
theorem dX14_owes_1 : decode cX14_owes 1 = .ok (.iload_n 1, 1) := dk_27 (dk_at dksX14_owes_0 1 rfl rfl)
theorem dX14_owes_2 : decode cX14_owes 2 = .ok (.iload_n 2, 1) := dk_28 (dk_at dksX14_owes_0 2 rfl rfl)
theorem dX14_owes_3 : decode cX14_owes 3 = .ok (.invokespecial 24, 3) := dk_183 0 24 (dk_at dksX14_owes_0 3 rfl rfl)
theorem dX14_owes_6 : decode cX14_owes 6 = .ok (.istore_n 3, 1) := dk_62 (dk_at dksX14_owes_0 6 rfl rfl)
theorem dX14_owes_7 : decode cX14_owes 7 = .ok (.iload_n 3, 1) := dk_29 (dk_at dksX14_owes_0 7 rfl rfl)
theorem dX14_owes_8 : decode cX14_owes 8 = .ok (.ifCond .le 12, 3) := dk_158 0 12 (dk_at dksX14_owes_0 8 rfl rfl)
theorem dX14_owes_11 : decode cX14_owes 11 = .ok (.iload_n 3, 1) := dk_29 (dk_at dksX14_owes_0 11 rfl rfl)
theorem dX14_owes_12 : decode cX14_owes 12 = .ok (.aload_n 0, 1) := dk_42 (dk_at dksX14_owes_0 12 rfl rfl)
theorem dX14_owes_13 : decode cX14_owes 13 = .ok (.getfield 15, 3) := dk_180 0 15 (dk_at dksX14_owes_0 13 rfl rfl)
theorem dX14_owes_16 : decode cX14_owes 16 = .ok (.iadd, 1) := dk_96 (dk_at dksX14_owes_0 16 rfl rfl)
theorem dX14_owes_17 : decode cX14_owes 17 = .ok (.goto 4, 3) := dk_167 0 4 (dk_at dksX14_owes_0 17 rfl rfl)
theorem dX14_owes_20 : decode cX14_owes 20 = .ok (.iconst 0, 1) := dk_3 (dk_at dksX14_owes_0 20 rfl rfl)
theorem dX14_owes_21 : decode cX14_owes 21 = .ok (.ireturn, 1) := dk_172 (dk_at dksX14_owes_0 21 rfl rfl)
theorem q93 : (Jvm.Cond.initialized "BoatsCalledIn$Lovers") ∈ lw_all := lw_g (lw_at lw_m1 24 rfl) rfl
theorem q131 : (Jvm.Cond.fieldLink "BoatsCalledIn$Lovers" (15 : Nat) "BoatsCalledIn$Lovers" "number" "I") ∈ lw_all := lw_g (lw_at lw_m1 62 rfl) rfl
theorem q132 : (Jvm.Cond.sameField "BoatsCalledIn$Lovers" "BoatsCalledIn$Boat" "number" "I") ∈ lw_all := lw_g (lw_at lw_m1 63 rfl) rfl
theorem q164 : (Jvm.Cond.instantiable "BoatsCalledIn$Lovers" (1 : Nat)) ∈ lw_all := lw_g (lw_at lw_m1 95 rfl) rfl
theorem q166 : (Jvm.Cond.instanceMethod ({ cls := "BoatsCalledIn$Lovers", name := "<init>", desc := "(I)V" } : Jvm.MethodName)) ∈ lw_all := lw_g (lw_at lw_m1 97 rfl) rfl
theorem q167 : (Jvm.Cond.code ({ cls := "BoatsCalledIn$Lovers", name := "<init>", desc := "(I)V" } : Jvm.MethodName) prog_6_method_1_code (2 : Nat) (Option.none : Option Jvm.ClassFile.FieldType)) ∈ lw_all := lw_g (lw_at lw_m1 98 rfl) rfl
theorem q168 : (Jvm.Cond.methodLink "BoatsCalledIn$Lovers" (1 : Nat) ({ cls := "BoatsCalledIn$Boat", name := "<init>", desc := "(I)V" } : Jvm.MethodName)) ∈ lw_all := lw_g (lw_at lw_m1 99 rfl) rfl
theorem q169 : (Jvm.Cond.lays "BoatsCalledIn$Lovers" "BoatsCalledIn$Boat" "number" "I") ∈ lw_all := lw_g (lw_at lw_m1 100 rfl) rfl
theorem q170 : (Jvm.Cond.superclass "BoatsCalledIn$Lovers" "BoatsCalledIn$Boat") ∈ lw_all := lw_g (lw_at lw_m1 101 rfl) rfl
theorem q225 : (Jvm.Cond.selects "BoatsCalledIn$Lovers" ({ cls := "BoatsCalledIn$Boat", name := "kind", desc := "()I" } : Jvm.MethodName) ({ cls := "BoatsCalledIn$Lovers", name := "kind", desc := "()I" } : Jvm.MethodName)) ∈ lw_all := lw_g (lw_at lw_m1 156 rfl) rfl
theorem q226 : (Jvm.Cond.instanceMethod ({ cls := "BoatsCalledIn$Lovers", name := "kind", desc := "()I" } : Jvm.MethodName)) ∈ lw_all := lw_g (lw_at lw_m1 157 rfl) rfl
theorem q227 : (Jvm.Cond.code ({ cls := "BoatsCalledIn$Lovers", name := "kind", desc := "()I" } : Jvm.MethodName) prog_6_method_2_code (1 : Nat) (Option.some Jvm.ClassFile.FieldType.int)) ∈ lw_all := lw_g (lw_at lw_m1 158 rfl) rfl
theorem q228 : (Jvm.Cond.methodLink "BoatsCalledIn$Lovers" (7 : Nat) ({ cls := "BoatsCalledIn$Boat", name := "kind", desc := "()I" } : Jvm.MethodName)) ∈ lw_all := lw_g (lw_at lw_m1 159 rfl) rfl
theorem q238 : (Jvm.Cond.selects "BoatsCalledIn$Lovers" ({ cls := "BoatsCalledIn$Boat", name := "heldRows", desc := "(I)I" } : Jvm.MethodName) ({ cls := "BoatsCalledIn$Boat", name := "heldRows", desc := "(I)I" } : Jvm.MethodName)) ∈ lw_all := lw_g (lw_at lw_m1 169 rfl) rfl
theorem q257 : (Jvm.Cond.selects "BoatsCalledIn$Lovers" ({ cls := "BoatsCalledIn$Boat", name := "rows", desc := "(I)I" } : Jvm.MethodName) ({ cls := "BoatsCalledIn$Lovers", name := "rows", desc := "(I)I" } : Jvm.MethodName)) ∈ lw_all := lw_g (lw_at lw_m1 188 rfl) rfl
theorem q258 : (Jvm.Cond.instanceMethod ({ cls := "BoatsCalledIn$Lovers", name := "rows", desc := "(I)I" } : Jvm.MethodName)) ∈ lw_all := lw_g (lw_at lw_m1 189 rfl) rfl
theorem q259 : (Jvm.Cond.code ({ cls := "BoatsCalledIn$Lovers", name := "rows", desc := "(I)I" } : Jvm.MethodName) prog_6_method_3_code (2 : Nat) (Option.some Jvm.ClassFile.FieldType.int)) ∈ lw_all := lw_g (lw_at lw_m1 190 rfl) rfl
theorem q260 : (Jvm.Cond.methodLink "BoatsCalledIn$Lovers" (11 : Nat) ({ cls := "BoatsCalledIn$Boat", name := "rows", desc := "(I)I" } : Jvm.MethodName)) ∈ lw_all := lw_g (lw_at lw_m1 191 rfl) rfl
theorem q273 : (Jvm.Cond.selects "BoatsCalledIn$Lovers" ({ cls := "BoatsCalledIn$Boat", name := "heldHears", desc := "(I)I" } : Jvm.MethodName) ({ cls := "BoatsCalledIn$Boat", name := "heldHears", desc := "(I)I" } : Jvm.MethodName)) ∈ lw_all := lw_g (lw_at lw_m1 204 rfl) rfl
theorem q292 : (Jvm.Cond.selects "BoatsCalledIn$Lovers" ({ cls := "BoatsCalledIn$Boat", name := "hears", desc := "(I)I" } : Jvm.MethodName) ({ cls := "BoatsCalledIn$Lovers", name := "hears", desc := "(I)I" } : Jvm.MethodName)) ∈ lw_all := lw_g (lw_at lw_m1 223 rfl) rfl
theorem q293 : (Jvm.Cond.instanceMethod ({ cls := "BoatsCalledIn$Lovers", name := "hears", desc := "(I)I" } : Jvm.MethodName)) ∈ lw_all := lw_g (lw_at lw_m1 224 rfl) rfl
theorem q294 : (Jvm.Cond.code ({ cls := "BoatsCalledIn$Lovers", name := "hears", desc := "(I)I" } : Jvm.MethodName) prog_6_method_4_code (2 : Nat) (Option.some Jvm.ClassFile.FieldType.int)) ∈ lw_all := lw_g (lw_at lw_m1 225 rfl) rfl
theorem q295 : (Jvm.Cond.methodLink "BoatsCalledIn$Lovers" (21 : Nat) ({ cls := "BoatsCalledIn$Boat", name := "hears", desc := "(I)I" } : Jvm.MethodName)) ∈ lw_all := lw_g (lw_at lw_m1 226 rfl) rfl
theorem q354 : (Jvm.Cond.selects "BoatsCalledIn$Lovers" ({ cls := "BoatsCalledIn$Boat", name := "heldOwes", desc := "(II)I" } : Jvm.MethodName) ({ cls := "BoatsCalledIn$Boat", name := "heldOwes", desc := "(II)I" } : Jvm.MethodName)) ∈ lw_all := lw_g (lw_at lw_m2 45 rfl) rfl
theorem q372 : (Jvm.Cond.selects "BoatsCalledIn$Lovers" ({ cls := "BoatsCalledIn$Boat", name := "owes", desc := "(II)I" } : Jvm.MethodName) ({ cls := "BoatsCalledIn$Lovers", name := "owes", desc := "(II)I" } : Jvm.MethodName)) ∈ lw_all := lw_g (lw_at lw_m2 63 rfl) rfl
theorem q373 : (Jvm.Cond.instanceMethod ({ cls := "BoatsCalledIn$Lovers", name := "owes", desc := "(II)I" } : Jvm.MethodName)) ∈ lw_all := lw_g (lw_at lw_m2 64 rfl) rfl
theorem q374 : (Jvm.Cond.code ({ cls := "BoatsCalledIn$Lovers", name := "owes", desc := "(II)I" } : Jvm.MethodName) prog_6_method_5_code (4 : Nat) (Option.some Jvm.ClassFile.FieldType.int)) ∈ lw_all := lw_g (lw_at lw_m2 65 rfl) rfl
theorem q375 : (Jvm.Cond.methodLink "BoatsCalledIn$Lovers" (24 : Nat) ({ cls := "BoatsCalledIn$Boat", name := "owes", desc := "(II)I" } : Jvm.MethodName)) ∈ lw_all := lw_g (lw_at lw_m2 66 rfl) rfl
theorem q1562 : (Jvm.Cond.castable "BoatsCalledIn$Lovers" "BoatsCalledIn$Boat") ∈ lw_tbl := lw_at lw_m7 53 rfl
theorem in_X14 : ∀ w ∈ wsX140, w ∈ lw_all := lw_in wsX140 [169] (by decide +kernel) (by decide +kernel)
