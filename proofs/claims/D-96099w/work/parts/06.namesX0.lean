/-! BoatsCalledIn -/
set_option maxRecDepth 100000
def RX0 : String := "BoatsCalledIn"
def TX0 : u_T := fun k => match k with
  | 0 => ("BoatsCalledIn", "boats", "[LBoatsCalledIn$Boat;", true)
  | 1 => ("BoatsCalledIn", "places", "[I", true)
  | 2 => ("BoatsCalledIn", "outs", "[I", true)
  | 3 => ("BoatsCalledIn", "paid", "[I", true)
  | 4 => ("BoatsCalledIn", "states", "[I", true)
  | 5 => ("BoatsCalledIn", "ins", "[I", true)
  | 6 => ("BoatsCalledIn", "boatMany", "I", false)
  | 7 => ("BoatsCalledIn", "lake", "[I", true)
  | 8 => ("BoatsCalledIn", "minute", "I", false)
  | 9 => ("BoatsCalledIn", "takings", "I", false)
  | 10 => ("BoatsCalledIn", "faulty", "LBoatsCalledIn$Faulty;", true)
  | 11 => ("BoatsCalledIn", "forBoat", "I", false)
  | 12 => ("BoatsCalledIn", "texts", "[[LBoatsCalledIn$Node;", true)
  | 13 => ("BoatsCalledIn", "textMany", "I", false)
  | 14 => ("BoatsCalledIn", "keys", "[Ljava/lang/String;", true)
  | 15 => ("BoatsCalledIn", "names", "[Ljava/lang/String;", true)
  | 16 => ("BoatsCalledIn", "tape", "[B", true)
  | 17 => ("BoatsCalledIn", "taped", "I", false)
  | 18 => ("BoatsCalledIn", "length", "I", false)
  | 19 => ("BoatsCalledIn", "at", "I", false)
  | 20 => ("BoatsCalledIn", "begin", "I", false)
  | 21 => ("BoatsCalledIn", "token", "I", false)
  | 22 => ("BoatsCalledIn", "value", "I", false)
  | 23 => ("BoatsCalledIn", "opens", "I", false)
  | 24 => ("BoatsCalledIn", "rule", "I", false)
  | 25 => ("BoatsCalledIn", "order", "[I", true)
  | 26 => ("BoatsCalledIn", "bestOrder", "[I", true)
  | 27 => ("BoatsCalledIn", "orderMany", "I", false)
  | 28 => ("BoatsCalledIn", "fewest", "I", false)
  | 29 => ("BoatsCalledIn", "waits", "[I", true)
  | 30 => ("BoatsCalledIn", "hasImage", "Z", false)
  | 31 => ("BoatsCalledIn", "imageRows", "[[I", true)
  | 32 => ("BoatsCalledIn", "imageLake", "[I", true)
  | 33 => ("BoatsCalledIn", "imageNumbers", "[I", true)
  | _ => ("BoatsCalledIn", "sheets", "[LBoatsCalledIn$Sheet;", true)
def tyX0 : Nat → FieldType := fun k => match k with
  | 0 => .array (.object "BoatsCalledIn$Boat")
  | 1 => .array .int
  | 2 => .array .int
  | 3 => .array .int
  | 4 => .array .int
  | 5 => .array .int
  | 6 => .int
  | 7 => .array .int
  | 8 => .int
  | 9 => .int
  | 10 => .object "BoatsCalledIn$Faulty"
  | 11 => .int
  | 12 => .array (.array (.object "BoatsCalledIn$Node"))
  | 13 => .int
  | 14 => .array (.object "java/lang/String")
  | 15 => .array (.object "java/lang/String")
  | 16 => .array .byte
  | 17 => .int
  | 18 => .int
  | 19 => .int
  | 20 => .int
  | 21 => .int
  | 22 => .int
  | 23 => .int
  | 24 => .int
  | 25 => .array .int
  | 26 => .array .int
  | 27 => .int
  | 28 => .int
  | 29 => .array .int
  | 30 => .boolean
  | 31 => .array (.array .int)
  | 32 => .array .int
  | 33 => .array .int
  | _ => .array (.object "BoatsCalledIn$Sheet")
abbrev wsX00 : List Cond := u_ws RX0 TX0 35
set_option maxRecDepth 100000 in
theorem nmX0 : ∀ a, a < 35 → ∀ b, b < 35 → a ≠ b → (TX0 a).2.1 ≠ (TX0 b).2.1 := by decide +kernel
set_option maxRecDepth 100000 in
theorem tyX0_ok : ∀ k, k < 35 → parseFieldDescriptor (TX0 k).2.2.1 = some (tyX0 k) := by decide +kernel
abbrev cX0_boat : ByteArray := prog_1_method_6_code
def yX0_boat : MethodName := ⟨RX0, "boat", "(III)I"⟩
def dkwX0_boat_7 : List UInt8 := [79, 42, 89, 180, 0, 15, 4, 96, 181, 0, 15, 42, 180, 0, 15, 4, 100, 172]
abbrev dktX0_boat_7 : List UInt8 := dkwX0_boat_7 ++ []
def dkwX0_boat_6 : List UInt8 := [17, 3, 232, 108, 79, 42, 180, 0, 66, 42, 180, 0, 15, 3, 79, 42, 180, 0, 69, 42, 180, 0, 15, 2]
abbrev dktX0_boat_6 : List UInt8 := dkwX0_boat_6 ++ dktX0_boat_7
def dkwX0_boat_5 : List UInt8 := [180, 0, 60, 42, 180, 0, 15, 29, 17, 3, 232, 112, 79, 42, 180, 0, 63, 42, 180, 0, 15, 29]
abbrev dktX0_boat_5 : List UInt8 := dkwX0_boat_5 ++ dktX0_boat_6
def dkwX0_boat_4 : List UInt8 := [28, 16, 100, 112, 184, 0, 52, 83, 42, 180, 0, 56, 42, 180, 0, 15, 28, 16, 100, 108, 79, 42]
abbrev dktX0_boat_4 : List UInt8 := dkwX0_boat_4 ++ dktX0_boat_5
def dkwX0_boat_3 : List UInt8 := [16, 254, 172, 42, 180, 0, 15, 16, 7, 160, 0, 6, 16, 252, 172, 42, 180, 0, 48, 42, 180, 0, 15, 27]
abbrev dktX0_boat_3 : List UInt8 := dkwX0_boat_3 ++ dktX0_boat_4
def dkwX0_boat_2 : List UInt8 := [20, 0, 40, 20, 0, 46, 184, 0, 5, 153, 0, 7, 4, 167, 0, 4, 3, 54, 4, 21, 4, 154, 0, 6]
abbrev dktX0_boat_2 : List UInt8 := dkwX0_boat_2 ++ dktX0_boat_3
def dkwX0_boat_1 : List UInt8 := [153, 0, 38, 28, 16, 100, 112, 16, 9, 163, 0, 29, 29, 155, 0, 25, 29, 17, 3, 232, 108, 133]
abbrev dktX0_boat_1 : List UInt8 := dkwX0_boat_1 ++ dktX0_boat_2
def dkwX0_boat_0 : List UInt8 := [27, 133, 9, 20, 0, 40, 184, 0, 5, 153, 0, 52, 28, 155, 0, 48, 28, 16, 100, 108, 184, 0, 42]
abbrev dktX0_boat_0 : List UInt8 := dkwX0_boat_0 ++ dktX0_boat_1
theorem dksX0_boat_0 : cX0_boat.data.toList.drop 0 = dktX0_boat_0 := by decide +kernel
theorem dksX0_boat_1 : cX0_boat.data.toList.drop 23 = dktX0_boat_1 := dk_seg dksX0_boat_0 23 rfl rfl
theorem dksX0_boat_2 : cX0_boat.data.toList.drop 45 = dktX0_boat_2 := dk_seg dksX0_boat_1 22 rfl rfl
theorem dksX0_boat_3 : cX0_boat.data.toList.drop 69 = dktX0_boat_3 := dk_seg dksX0_boat_2 24 rfl rfl
theorem dksX0_boat_4 : cX0_boat.data.toList.drop 93 = dktX0_boat_4 := dk_seg dksX0_boat_3 24 rfl rfl
theorem dksX0_boat_5 : cX0_boat.data.toList.drop 115 = dktX0_boat_5 := dk_seg dksX0_boat_4 22 rfl rfl
theorem dksX0_boat_6 : cX0_boat.data.toList.drop 137 = dktX0_boat_6 := dk_seg dksX0_boat_5 22 rfl rfl
theorem dksX0_boat_7 : cX0_boat.data.toList.drop 161 = dktX0_boat_7 := dk_seg dksX0_boat_6 24 rfl rfl
theorem dX0_boat_0 : decode cX0_boat 0 = .ok (.iload_n 1, 1) := dk_27 (dk_at dksX0_boat_0 0 rfl rfl)
theorem dX0_boat_1 : decode cX0_boat 1 = .ok (.i2l, 1) := dk_133 (dk_at dksX0_boat_0 1 rfl rfl)
theorem dX0_boat_2 : decode cX0_boat 2 = .ok (.lconst 0, 1) := dk_9 (dk_at dksX0_boat_0 2 rfl rfl)
theorem dX0_boat_3 : decode cX0_boat 3 = .ok (.ldc2_w 40, 3) := dk_20 0 40 (dk_at dksX0_boat_0 3 rfl rfl)
theorem dX0_boat_6 : decode cX0_boat 6 = .ok (.invokestatic 5, 3) := dk_184 0 5 (dk_at dksX0_boat_0 6 rfl rfl)
theorem dX0_boat_9 : decode cX0_boat 9 = .ok (.ifCond .eq 52, 3) := dk_153 0 52 (dk_at dksX0_boat_0 9 rfl rfl)
theorem dX0_boat_12 : decode cX0_boat 12 = .ok (.iload_n 2, 1) := dk_28 (dk_at dksX0_boat_0 12 rfl rfl)
theorem dX0_boat_13 : decode cX0_boat 13 = .ok (.ifCond .lt 48, 3) := dk_155 0 48 (dk_at dksX0_boat_0 13 rfl rfl)
theorem dX0_boat_16 : decode cX0_boat 16 = .ok (.iload_n 2, 1) := dk_28 (dk_at dksX0_boat_0 16 rfl rfl)
theorem dX0_boat_17 : decode cX0_boat 17 = .ok (.bipush 100, 2) := dk_16 100 (dk_at dksX0_boat_0 17 rfl rfl)
theorem dX0_boat_19 : decode cX0_boat 19 = .ok (.idiv, 1) := dk_108 (dk_at dksX0_boat_0 19 rfl rfl)
theorem dX0_boat_20 : decode cX0_boat 20 = .ok (.invokestatic 42, 3) := dk_184 0 42 (dk_at dksX0_boat_0 20 rfl rfl)
theorem dX0_boat_23 : decode cX0_boat 23 = .ok (.ifCond .eq 38, 3) := dk_153 0 38 (dk_at dksX0_boat_1 0 rfl rfl)
theorem dX0_boat_26 : decode cX0_boat 26 = .ok (.iload_n 2, 1) := dk_28 (dk_at dksX0_boat_1 3 rfl rfl)
theorem dX0_boat_27 : decode cX0_boat 27 = .ok (.bipush 100, 2) := dk_16 100 (dk_at dksX0_boat_1 4 rfl rfl)
theorem dX0_boat_29 : decode cX0_boat 29 = .ok (.irem, 1) := dk_112 (dk_at dksX0_boat_1 6 rfl rfl)
theorem dX0_boat_30 : decode cX0_boat 30 = .ok (.bipush 9, 2) := dk_16 9 (dk_at dksX0_boat_1 7 rfl rfl)
theorem dX0_boat_32 : decode cX0_boat 32 = .ok (.if_icmp .gt 29, 3) := dk_163 0 29 (dk_at dksX0_boat_1 9 rfl rfl)
theorem dX0_boat_35 : decode cX0_boat 35 = .ok (.iload_n 3, 1) := dk_29 (dk_at dksX0_boat_1 12 rfl rfl)
theorem dX0_boat_36 : decode cX0_boat 36 = .ok (.ifCond .lt 25, 3) := dk_155 0 25 (dk_at dksX0_boat_1 13 rfl rfl)
theorem dX0_boat_39 : decode cX0_boat 39 = .ok (.iload_n 3, 1) := dk_29 (dk_at dksX0_boat_1 16 rfl rfl)
theorem dX0_boat_40 : decode cX0_boat 40 = .ok (.sipush 1000, 3) := dk_17 3 232 (dk_at dksX0_boat_1 17 rfl rfl)
theorem dX0_boat_43 : decode cX0_boat 43 = .ok (.idiv, 1) := dk_108 (dk_at dksX0_boat_1 20 rfl rfl)
theorem dX0_boat_44 : decode cX0_boat 44 = .ok (.i2l, 1) := dk_133 (dk_at dksX0_boat_1 21 rfl rfl)
theorem dX0_boat_45 : decode cX0_boat 45 = .ok (.ldc2_w 40, 3) := dk_20 0 40 (dk_at dksX0_boat_2 0 rfl rfl)
theorem dX0_boat_48 : decode cX0_boat 48 = .ok (.ldc2_w 46, 3) := dk_20 0 46 (dk_at dksX0_boat_2 3 rfl rfl)
theorem dX0_boat_51 : decode cX0_boat 51 = .ok (.invokestatic 5, 3) := dk_184 0 5 (dk_at dksX0_boat_2 6 rfl rfl)
theorem dX0_boat_54 : decode cX0_boat 54 = .ok (.ifCond .eq 7, 3) := dk_153 0 7 (dk_at dksX0_boat_2 9 rfl rfl)
theorem dX0_boat_57 : decode cX0_boat 57 = .ok (.iconst 1, 1) := dk_4 (dk_at dksX0_boat_2 12 rfl rfl)
theorem dX0_boat_58 : decode cX0_boat 58 = .ok (.goto 4, 3) := dk_167 0 4 (dk_at dksX0_boat_2 13 rfl rfl)
theorem dX0_boat_61 : decode cX0_boat 61 = .ok (.iconst 0, 1) := dk_3 (dk_at dksX0_boat_2 16 rfl rfl)
theorem dX0_boat_62 : decode cX0_boat 62 = .ok (.istore 4, 2) := dk_54 4 (dk_at dksX0_boat_2 17 rfl rfl)
theorem dX0_boat_64 : decode cX0_boat 64 = .ok (.iload 4, 2) := dk_21 4 (dk_at dksX0_boat_2 19 rfl rfl)
theorem dX0_boat_66 : decode cX0_boat 66 = .ok (.ifCond .ne 6, 3) := dk_154 0 6 (dk_at dksX0_boat_2 21 rfl rfl)
theorem dX0_boat_69 : decode cX0_boat 69 = .ok (.bipush (-2), 2) := dk_16 254 (dk_at dksX0_boat_3 0 rfl rfl)
theorem dX0_boat_71 : decode cX0_boat 71 = .ok (.ireturn, 1) := dk_172 (dk_at dksX0_boat_3 2 rfl rfl)
theorem dX0_boat_72 : decode cX0_boat 72 = .ok (.aload_n 0, 1) := dk_42 (dk_at dksX0_boat_3 3 rfl rfl)
theorem dX0_boat_73 : decode cX0_boat 73 = .ok (.getfield 15, 3) := dk_180 0 15 (dk_at dksX0_boat_3 4 rfl rfl)
theorem dX0_boat_76 : decode cX0_boat 76 = .ok (.bipush 7, 2) := dk_16 7 (dk_at dksX0_boat_3 7 rfl rfl)
theorem dX0_boat_78 : decode cX0_boat 78 = .ok (.if_icmp .ne 6, 3) := dk_160 0 6 (dk_at dksX0_boat_3 9 rfl rfl)
theorem dX0_boat_81 : decode cX0_boat 81 = .ok (.bipush (-4), 2) := dk_16 252 (dk_at dksX0_boat_3 12 rfl rfl)
theorem dX0_boat_83 : decode cX0_boat 83 = .ok (.ireturn, 1) := dk_172 (dk_at dksX0_boat_3 14 rfl rfl)
theorem dX0_boat_84 : decode cX0_boat 84 = .ok (.aload_n 0, 1) := dk_42 (dk_at dksX0_boat_3 15 rfl rfl)
theorem dX0_boat_85 : decode cX0_boat 85 = .ok (.getfield 48, 3) := dk_180 0 48 (dk_at dksX0_boat_3 16 rfl rfl)
theorem dX0_boat_88 : decode cX0_boat 88 = .ok (.aload_n 0, 1) := dk_42 (dk_at dksX0_boat_3 19 rfl rfl)
theorem dX0_boat_89 : decode cX0_boat 89 = .ok (.getfield 15, 3) := dk_180 0 15 (dk_at dksX0_boat_3 20 rfl rfl)
theorem dX0_boat_92 : decode cX0_boat 92 = .ok (.iload_n 1, 1) := dk_27 (dk_at dksX0_boat_3 23 rfl rfl)
theorem dX0_boat_93 : decode cX0_boat 93 = .ok (.iload_n 2, 1) := dk_28 (dk_at dksX0_boat_4 0 rfl rfl)
theorem dX0_boat_94 : decode cX0_boat 94 = .ok (.bipush 100, 2) := dk_16 100 (dk_at dksX0_boat_4 1 rfl rfl)
theorem dX0_boat_96 : decode cX0_boat 96 = .ok (.irem, 1) := dk_112 (dk_at dksX0_boat_4 3 rfl rfl)
theorem dX0_boat_97 : decode cX0_boat 97 = .ok (.invokestatic 52, 3) := dk_184 0 52 (dk_at dksX0_boat_4 4 rfl rfl)
theorem dX0_boat_100 : decode cX0_boat 100 = .ok (.aastore, 1) := dk_83 (dk_at dksX0_boat_4 7 rfl rfl)
theorem dX0_boat_101 : decode cX0_boat 101 = .ok (.aload_n 0, 1) := dk_42 (dk_at dksX0_boat_4 8 rfl rfl)
theorem dX0_boat_102 : decode cX0_boat 102 = .ok (.getfield 56, 3) := dk_180 0 56 (dk_at dksX0_boat_4 9 rfl rfl)
theorem dX0_boat_105 : decode cX0_boat 105 = .ok (.aload_n 0, 1) := dk_42 (dk_at dksX0_boat_4 12 rfl rfl)
theorem dX0_boat_106 : decode cX0_boat 106 = .ok (.getfield 15, 3) := dk_180 0 15 (dk_at dksX0_boat_4 13 rfl rfl)
theorem dX0_boat_109 : decode cX0_boat 109 = .ok (.iload_n 2, 1) := dk_28 (dk_at dksX0_boat_4 16 rfl rfl)
theorem dX0_boat_110 : decode cX0_boat 110 = .ok (.bipush 100, 2) := dk_16 100 (dk_at dksX0_boat_4 17 rfl rfl)
theorem dX0_boat_112 : decode cX0_boat 112 = .ok (.idiv, 1) := dk_108 (dk_at dksX0_boat_4 19 rfl rfl)
theorem dX0_boat_113 : decode cX0_boat 113 = .ok (.iastore, 1) := dk_79 (dk_at dksX0_boat_4 20 rfl rfl)
theorem dX0_boat_114 : decode cX0_boat 114 = .ok (.aload_n 0, 1) := dk_42 (dk_at dksX0_boat_4 21 rfl rfl)
theorem dX0_boat_115 : decode cX0_boat 115 = .ok (.getfield 60, 3) := dk_180 0 60 (dk_at dksX0_boat_5 0 rfl rfl)
theorem dX0_boat_118 : decode cX0_boat 118 = .ok (.aload_n 0, 1) := dk_42 (dk_at dksX0_boat_5 3 rfl rfl)
theorem dX0_boat_119 : decode cX0_boat 119 = .ok (.getfield 15, 3) := dk_180 0 15 (dk_at dksX0_boat_5 4 rfl rfl)
theorem dX0_boat_122 : decode cX0_boat 122 = .ok (.iload_n 3, 1) := dk_29 (dk_at dksX0_boat_5 7 rfl rfl)
theorem dX0_boat_123 : decode cX0_boat 123 = .ok (.sipush 1000, 3) := dk_17 3 232 (dk_at dksX0_boat_5 8 rfl rfl)
theorem dX0_boat_126 : decode cX0_boat 126 = .ok (.irem, 1) := dk_112 (dk_at dksX0_boat_5 11 rfl rfl)
theorem dX0_boat_127 : decode cX0_boat 127 = .ok (.iastore, 1) := dk_79 (dk_at dksX0_boat_5 12 rfl rfl)
theorem dX0_boat_128 : decode cX0_boat 128 = .ok (.aload_n 0, 1) := dk_42 (dk_at dksX0_boat_5 13 rfl rfl)
theorem dX0_boat_129 : decode cX0_boat 129 = .ok (.getfield 63, 3) := dk_180 0 63 (dk_at dksX0_boat_5 14 rfl rfl)
theorem dX0_boat_132 : decode cX0_boat 132 = .ok (.aload_n 0, 1) := dk_42 (dk_at dksX0_boat_5 17 rfl rfl)
theorem dX0_boat_133 : decode cX0_boat 133 = .ok (.getfield 15, 3) := dk_180 0 15 (dk_at dksX0_boat_5 18 rfl rfl)
theorem dX0_boat_136 : decode cX0_boat 136 = .ok (.iload_n 3, 1) := dk_29 (dk_at dksX0_boat_5 21 rfl rfl)
theorem dX0_boat_137 : decode cX0_boat 137 = .ok (.sipush 1000, 3) := dk_17 3 232 (dk_at dksX0_boat_6 0 rfl rfl)
theorem dX0_boat_140 : decode cX0_boat 140 = .ok (.idiv, 1) := dk_108 (dk_at dksX0_boat_6 3 rfl rfl)
theorem dX0_boat_141 : decode cX0_boat 141 = .ok (.iastore, 1) := dk_79 (dk_at dksX0_boat_6 4 rfl rfl)
theorem dX0_boat_142 : decode cX0_boat 142 = .ok (.aload_n 0, 1) := dk_42 (dk_at dksX0_boat_6 5 rfl rfl)
theorem dX0_boat_143 : decode cX0_boat 143 = .ok (.getfield 66, 3) := dk_180 0 66 (dk_at dksX0_boat_6 6 rfl rfl)
theorem dX0_boat_146 : decode cX0_boat 146 = .ok (.aload_n 0, 1) := dk_42 (dk_at dksX0_boat_6 9 rfl rfl)
theorem dX0_boat_147 : decode cX0_boat 147 = .ok (.getfield 15, 3) := dk_180 0 15 (dk_at dksX0_boat_6 10 rfl rfl)
theorem dX0_boat_150 : decode cX0_boat 150 = .ok (.iconst 0, 1) := dk_3 (dk_at dksX0_boat_6 13 rfl rfl)
theorem dX0_boat_151 : decode cX0_boat 151 = .ok (.iastore, 1) := dk_79 (dk_at dksX0_boat_6 14 rfl rfl)
theorem dX0_boat_152 : decode cX0_boat 152 = .ok (.aload_n 0, 1) := dk_42 (dk_at dksX0_boat_6 15 rfl rfl)
theorem dX0_boat_153 : decode cX0_boat 153 = .ok (.getfield 69, 3) := dk_180 0 69 (dk_at dksX0_boat_6 16 rfl rfl)
theorem dX0_boat_156 : decode cX0_boat 156 = .ok (.aload_n 0, 1) := dk_42 (dk_at dksX0_boat_6 19 rfl rfl)
theorem dX0_boat_157 : decode cX0_boat 157 = .ok (.getfield 15, 3) := dk_180 0 15 (dk_at dksX0_boat_6 20 rfl rfl)
theorem dX0_boat_160 : decode cX0_boat 160 = .ok (.iconst (-1), 1) := dk_2 (dk_at dksX0_boat_6 23 rfl rfl)
theorem dX0_boat_161 : decode cX0_boat 161 = .ok (.iastore, 1) := dk_79 (dk_at dksX0_boat_7 0 rfl rfl)
theorem dX0_boat_162 : decode cX0_boat 162 = .ok (.aload_n 0, 1) := dk_42 (dk_at dksX0_boat_7 1 rfl rfl)
theorem dX0_boat_163 : decode cX0_boat 163 = .ok (.dup, 1) := dk_89 (dk_at dksX0_boat_7 2 rfl rfl)
theorem dX0_boat_164 : decode cX0_boat 164 = .ok (.getfield 15, 3) := dk_180 0 15 (dk_at dksX0_boat_7 3 rfl rfl)
theorem dX0_boat_167 : decode cX0_boat 167 = .ok (.iconst 1, 1) := dk_4 (dk_at dksX0_boat_7 6 rfl rfl)
theorem dX0_boat_168 : decode cX0_boat 168 = .ok (.iadd, 1) := dk_96 (dk_at dksX0_boat_7 7 rfl rfl)
theorem dX0_boat_169 : decode cX0_boat 169 = .ok (.putfield 15, 3) := dk_181 0 15 (dk_at dksX0_boat_7 8 rfl rfl)
theorem dX0_boat_172 : decode cX0_boat 172 = .ok (.aload_n 0, 1) := dk_42 (dk_at dksX0_boat_7 11 rfl rfl)
theorem dX0_boat_173 : decode cX0_boat 173 = .ok (.getfield 15, 3) := dk_180 0 15 (dk_at dksX0_boat_7 12 rfl rfl)
theorem dX0_boat_176 : decode cX0_boat 176 = .ok (.iconst 1, 1) := dk_4 (dk_at dksX0_boat_7 15 rfl rfl)
theorem dX0_boat_177 : decode cX0_boat 177 = .ok (.isub, 1) := dk_100 (dk_at dksX0_boat_7 16 rfl rfl)
theorem dX0_boat_178 : decode cX0_boat 178 = .ok (.ireturn, 1) := dk_172 (dk_at dksX0_boat_7 17 rfl rfl)
abbrev cX0_in : ByteArray := prog_1_method_1_code
def yX0_in : MethodName := ⟨RX0, "in", "(JJJ)Z"⟩
def dkwX0_in_0 : List UInt8 := [30, 32, 148, 155, 0, 14, 30, 22, 4, 148, 157, 0, 7, 4, 167, 0, 4, 3, 172]
abbrev dktX0_in_0 : List UInt8 := dkwX0_in_0 ++ []
theorem dksX0_in_0 : cX0_in.data.toList.drop 0 = dktX0_in_0 := by decide +kernel
theorem dX0_in_0 : decode cX0_in 0 = .ok (.lload_n 0, 1) := dk_30 (dk_at dksX0_in_0 0 rfl rfl)
theorem dX0_in_1 : decode cX0_in 1 = .ok (.lload_n 2, 1) := dk_32 (dk_at dksX0_in_0 1 rfl rfl)
theorem dX0_in_2 : decode cX0_in 2 = .ok (.lcmp, 1) := dk_148 (dk_at dksX0_in_0 2 rfl rfl)
theorem dX0_in_3 : decode cX0_in 3 = .ok (.ifCond .lt 14, 3) := dk_155 0 14 (dk_at dksX0_in_0 3 rfl rfl)
theorem dX0_in_6 : decode cX0_in 6 = .ok (.lload_n 0, 1) := dk_30 (dk_at dksX0_in_0 6 rfl rfl)
theorem dX0_in_7 : decode cX0_in 7 = .ok (.lload 4, 2) := dk_22 4 (dk_at dksX0_in_0 7 rfl rfl)
theorem dX0_in_9 : decode cX0_in 9 = .ok (.lcmp, 1) := dk_148 (dk_at dksX0_in_0 9 rfl rfl)
theorem dX0_in_10 : decode cX0_in 10 = .ok (.ifCond .gt 7, 3) := dk_157 0 7 (dk_at dksX0_in_0 10 rfl rfl)
theorem dX0_in_13 : decode cX0_in 13 = .ok (.iconst 1, 1) := dk_4 (dk_at dksX0_in_0 13 rfl rfl)
theorem dX0_in_14 : decode cX0_in 14 = .ok (.goto 4, 3) := dk_167 0 4 (dk_at dksX0_in_0 14 rfl rfl)
theorem dX0_in_17 : decode cX0_in 17 = .ok (.iconst 0, 1) := dk_3 (dk_at dksX0_in_0 17 rfl rfl)
theorem dX0_in_18 : decode cX0_in 18 = .ok (.ireturn, 1) := dk_172 (dk_at dksX0_in_0 18 rfl rfl)
abbrev cX0_isCell : ByteArray := prog_1_method_2_code
def yX0_isCell : MethodName := ⟨RX0, "isCell", "(I)Z"⟩
def dkwX0_isCell_0 : List UInt8 := [26, 133, 9, 20, 0, 3, 184, 0, 5, 172]
abbrev dktX0_isCell_0 : List UInt8 := dkwX0_isCell_0 ++ []
theorem dksX0_isCell_0 : cX0_isCell.data.toList.drop 0 = dktX0_isCell_0 := by decide +kernel
theorem dX0_isCell_0 : decode cX0_isCell 0 = .ok (.iload_n 0, 1) := dk_26 (dk_at dksX0_isCell_0 0 rfl rfl)
theorem dX0_isCell_1 : decode cX0_isCell 1 = .ok (.i2l, 1) := dk_133 (dk_at dksX0_isCell_0 1 rfl rfl)
theorem dX0_isCell_2 : decode cX0_isCell 2 = .ok (.lconst 0, 1) := dk_9 (dk_at dksX0_isCell_0 2 rfl rfl)
theorem dX0_isCell_3 : decode cX0_isCell 3 = .ok (.ldc2_w 3, 3) := dk_20 0 3 (dk_at dksX0_isCell_0 3 rfl rfl)
theorem dX0_isCell_6 : decode cX0_isCell 6 = .ok (.invokestatic 5, 3) := dk_184 0 5 (dk_at dksX0_isCell_0 6 rfl rfl)
theorem dX0_isCell_9 : decode cX0_isCell 9 = .ok (.ireturn, 1) := dk_172 (dk_at dksX0_isCell_0 9 rfl rfl)
abbrev cX0_made : ByteArray := prog_1_method_5_code
def yX0_made : MethodName := ⟨RX0, "made", "(II)LBoatsCalledIn$Boat;"⟩
def dkwX0_made_4 : List UInt8 := [187, 0, 37, 89, 27, 183, 0, 39, 176]
abbrev dktX0_made_4 : List UInt8 := dkwX0_made_4 ++ []
def dkwX0_made_3 : List UInt8 := [183, 0, 30, 176, 187, 0, 31, 89, 27, 183, 0, 33, 176, 187, 0, 34, 89, 27, 183, 0, 36, 176]
abbrev dktX0_made_3 : List UInt8 := dkwX0_made_3 ++ dktX0_made_4
def dkwX0_made_2 : List UInt8 := [187, 0, 19, 89, 27, 183, 0, 21, 176, 187, 0, 25, 89, 27, 183, 0, 27, 176, 187, 0, 28, 89, 27]
abbrev dktX0_made_2 : List UInt8 := dkwX0_made_2 ++ dktX0_made_3
def dkwX0_made_1 : List UInt8 := [170, 0, 0, 0, 0, 0, 80, 0, 0, 0, 1, 0, 0, 0, 5, 0, 0, 0, 35, 0, 0, 0, 44, 0, 0, 0, 53, 0, 0, 0, 62, 0, 0, 0, 71]
abbrev dktX0_made_1 : List UInt8 := dkwX0_made_1 ++ dktX0_made_2
def dkwX0_made_0 : List UInt8 := [26]
abbrev dktX0_made_0 : List UInt8 := dkwX0_made_0 ++ dktX0_made_1
theorem dksX0_made_0 : cX0_made.data.toList.drop 0 = dktX0_made_0 := by decide +kernel
theorem dksX0_made_1 : cX0_made.data.toList.drop 1 = dktX0_made_1 := dk_seg dksX0_made_0 1 rfl rfl
theorem dksX0_made_2 : cX0_made.data.toList.drop 36 = dktX0_made_2 := dk_seg dksX0_made_1 35 rfl rfl
theorem dksX0_made_3 : cX0_made.data.toList.drop 59 = dktX0_made_3 := dk_seg dksX0_made_2 23 rfl rfl
theorem dksX0_made_4 : cX0_made.data.toList.drop 81 = dktX0_made_4 := dk_seg dksX0_made_3 22 rfl rfl
theorem dX0_made_0 : decode cX0_made 0 = .ok (.iload_n 0, 1) := dk_26 (dk_at dksX0_made_0 0 rfl rfl)
theorem dX0_made_1 : decode cX0_made 1 = .ok (.tableswitch 80 1 5 #[35, 44, 53, 62, 71], 35) := by decide +kernel
theorem dX0_made_36 : decode cX0_made 36 = .ok (.new 19, 3) := dk_187 0 19 (dk_at dksX0_made_2 0 rfl rfl)
theorem dX0_made_39 : decode cX0_made 39 = .ok (.dup, 1) := dk_89 (dk_at dksX0_made_2 3 rfl rfl)
theorem dX0_made_40 : decode cX0_made 40 = .ok (.iload_n 1, 1) := dk_27 (dk_at dksX0_made_2 4 rfl rfl)
theorem dX0_made_41 : decode cX0_made 41 = .ok (.invokespecial 21, 3) := dk_183 0 21 (dk_at dksX0_made_2 5 rfl rfl)
theorem dX0_made_44 : decode cX0_made 44 = .ok (.areturn, 1) := dk_176 (dk_at dksX0_made_2 8 rfl rfl)
theorem dX0_made_45 : decode cX0_made 45 = .ok (.new 25, 3) := dk_187 0 25 (dk_at dksX0_made_2 9 rfl rfl)
theorem dX0_made_48 : decode cX0_made 48 = .ok (.dup, 1) := dk_89 (dk_at dksX0_made_2 12 rfl rfl)
theorem dX0_made_49 : decode cX0_made 49 = .ok (.iload_n 1, 1) := dk_27 (dk_at dksX0_made_2 13 rfl rfl)
theorem dX0_made_50 : decode cX0_made 50 = .ok (.invokespecial 27, 3) := dk_183 0 27 (dk_at dksX0_made_2 14 rfl rfl)
theorem dX0_made_53 : decode cX0_made 53 = .ok (.areturn, 1) := dk_176 (dk_at dksX0_made_2 17 rfl rfl)
theorem dX0_made_54 : decode cX0_made 54 = .ok (.new 28, 3) := dk_187 0 28 (dk_at dksX0_made_2 18 rfl rfl)
theorem dX0_made_57 : decode cX0_made 57 = .ok (.dup, 1) := dk_89 (dk_at dksX0_made_2 21 rfl rfl)
theorem dX0_made_58 : decode cX0_made 58 = .ok (.iload_n 1, 1) := dk_27 (dk_at dksX0_made_2 22 rfl rfl)
theorem dX0_made_59 : decode cX0_made 59 = .ok (.invokespecial 30, 3) := dk_183 0 30 (dk_at dksX0_made_3 0 rfl rfl)
theorem dX0_made_62 : decode cX0_made 62 = .ok (.areturn, 1) := dk_176 (dk_at dksX0_made_3 3 rfl rfl)
theorem dX0_made_63 : decode cX0_made 63 = .ok (.new 31, 3) := dk_187 0 31 (dk_at dksX0_made_3 4 rfl rfl)
theorem dX0_made_66 : decode cX0_made 66 = .ok (.dup, 1) := dk_89 (dk_at dksX0_made_3 7 rfl rfl)
theorem dX0_made_67 : decode cX0_made 67 = .ok (.iload_n 1, 1) := dk_27 (dk_at dksX0_made_3 8 rfl rfl)
theorem dX0_made_68 : decode cX0_made 68 = .ok (.invokespecial 33, 3) := dk_183 0 33 (dk_at dksX0_made_3 9 rfl rfl)
theorem dX0_made_71 : decode cX0_made 71 = .ok (.areturn, 1) := dk_176 (dk_at dksX0_made_3 12 rfl rfl)
theorem dX0_made_72 : decode cX0_made 72 = .ok (.new 34, 3) := dk_187 0 34 (dk_at dksX0_made_3 13 rfl rfl)
theorem dX0_made_75 : decode cX0_made 75 = .ok (.dup, 1) := dk_89 (dk_at dksX0_made_3 16 rfl rfl)
theorem dX0_made_76 : decode cX0_made 76 = .ok (.iload_n 1, 1) := dk_27 (dk_at dksX0_made_3 17 rfl rfl)
theorem dX0_made_77 : decode cX0_made 77 = .ok (.invokespecial 36, 3) := dk_183 0 36 (dk_at dksX0_made_3 18 rfl rfl)
theorem dX0_made_80 : decode cX0_made 80 = .ok (.areturn, 1) := dk_176 (dk_at dksX0_made_3 21 rfl rfl)
theorem dX0_made_81 : decode cX0_made 81 = .ok (.new 37, 3) := dk_187 0 37 (dk_at dksX0_made_4 0 rfl rfl)
theorem dX0_made_84 : decode cX0_made 84 = .ok (.dup, 1) := dk_89 (dk_at dksX0_made_4 3 rfl rfl)
theorem dX0_made_85 : decode cX0_made 85 = .ok (.iload_n 1, 1) := dk_27 (dk_at dksX0_made_4 4 rfl rfl)
theorem dX0_made_86 : decode cX0_made 86 = .ok (.invokespecial 39, 3) := dk_183 0 39 (dk_at dksX0_made_4 5 rfl rfl)
theorem dX0_made_89 : decode cX0_made 89 = .ok (.areturn, 1) := dk_176 (dk_at dksX0_made_4 8 rfl rfl)
abbrev cX0_set : ByteArray := prog_1_method_10_code
def yX0_set : MethodName := ⟨RX0, "set", "(III)I"⟩
def dkwX0_set_3 : List UInt8 := [7, 100, 29, 79, 21, 4, 172]
abbrev dktX0_set_3 : List UInt8 := dkwX0_set_3 ++ []
def dkwX0_set_2 : List UInt8 := [184, 0, 5, 154, 0, 6, 16, 254, 172, 42, 180, 0, 98, 27, 7, 100, 46, 54, 4, 42, 180, 0, 98, 27]
abbrev dktX0_set_2 : List UInt8 := dkwX0_set_2 ++ dktX0_set_3
def dkwX0_set_1 : List UInt8 := [20, 0, 88, 20, 0, 90, 184, 0, 5, 153, 0, 21, 29, 133, 27, 184, 0, 92, 133, 27, 184, 0, 95, 133]
abbrev dktX0_set_1 : List UInt8 := dkwX0_set_1 ++ dktX0_set_2
def dkwX0_set_0 : List UInt8 := [27, 133, 9, 20, 0, 82, 184, 0, 5, 153, 0, 11, 42, 27, 28, 29, 182, 0, 84, 172, 27, 133]
abbrev dktX0_set_0 : List UInt8 := dkwX0_set_0 ++ dktX0_set_1
theorem dksX0_set_0 : cX0_set.data.toList.drop 0 = dktX0_set_0 := by decide +kernel
theorem dksX0_set_1 : cX0_set.data.toList.drop 22 = dktX0_set_1 := dk_seg dksX0_set_0 22 rfl rfl
theorem dksX0_set_2 : cX0_set.data.toList.drop 46 = dktX0_set_2 := dk_seg dksX0_set_1 24 rfl rfl
theorem dksX0_set_3 : cX0_set.data.toList.drop 70 = dktX0_set_3 := dk_seg dksX0_set_2 24 rfl rfl
theorem dX0_set_0 : decode cX0_set 0 = .ok (.iload_n 1, 1) := dk_27 (dk_at dksX0_set_0 0 rfl rfl)
theorem dX0_set_1 : decode cX0_set 1 = .ok (.i2l, 1) := dk_133 (dk_at dksX0_set_0 1 rfl rfl)
theorem dX0_set_2 : decode cX0_set 2 = .ok (.lconst 0, 1) := dk_9 (dk_at dksX0_set_0 2 rfl rfl)
theorem dX0_set_3 : decode cX0_set 3 = .ok (.ldc2_w 82, 3) := dk_20 0 82 (dk_at dksX0_set_0 3 rfl rfl)
theorem dX0_set_6 : decode cX0_set 6 = .ok (.invokestatic 5, 3) := dk_184 0 5 (dk_at dksX0_set_0 6 rfl rfl)
theorem dX0_set_9 : decode cX0_set 9 = .ok (.ifCond .eq 11, 3) := dk_153 0 11 (dk_at dksX0_set_0 9 rfl rfl)
theorem dX0_set_12 : decode cX0_set 12 = .ok (.aload_n 0, 1) := dk_42 (dk_at dksX0_set_0 12 rfl rfl)
theorem dX0_set_13 : decode cX0_set 13 = .ok (.iload_n 1, 1) := dk_27 (dk_at dksX0_set_0 13 rfl rfl)
theorem dX0_set_14 : decode cX0_set 14 = .ok (.iload_n 2, 1) := dk_28 (dk_at dksX0_set_0 14 rfl rfl)
theorem dX0_set_15 : decode cX0_set 15 = .ok (.iload_n 3, 1) := dk_29 (dk_at dksX0_set_0 15 rfl rfl)
theorem dX0_set_16 : decode cX0_set 16 = .ok (.invokevirtual 84, 3) := dk_182 0 84 (dk_at dksX0_set_0 16 rfl rfl)
theorem dX0_set_19 : decode cX0_set 19 = .ok (.ireturn, 1) := dk_172 (dk_at dksX0_set_0 19 rfl rfl)
theorem dX0_set_20 : decode cX0_set 20 = .ok (.iload_n 1, 1) := dk_27 (dk_at dksX0_set_0 20 rfl rfl)
theorem dX0_set_21 : decode cX0_set 21 = .ok (.i2l, 1) := dk_133 (dk_at dksX0_set_0 21 rfl rfl)
theorem dX0_set_22 : decode cX0_set 22 = .ok (.ldc2_w 88, 3) := dk_20 0 88 (dk_at dksX0_set_1 0 rfl rfl)
theorem dX0_set_25 : decode cX0_set 25 = .ok (.ldc2_w 90, 3) := dk_20 0 90 (dk_at dksX0_set_1 3 rfl rfl)
theorem dX0_set_28 : decode cX0_set 28 = .ok (.invokestatic 5, 3) := dk_184 0 5 (dk_at dksX0_set_1 6 rfl rfl)
theorem dX0_set_31 : decode cX0_set 31 = .ok (.ifCond .eq 21, 3) := dk_153 0 21 (dk_at dksX0_set_1 9 rfl rfl)
theorem dX0_set_34 : decode cX0_set 34 = .ok (.iload_n 3, 1) := dk_29 (dk_at dksX0_set_1 12 rfl rfl)
theorem dX0_set_35 : decode cX0_set 35 = .ok (.i2l, 1) := dk_133 (dk_at dksX0_set_1 13 rfl rfl)
theorem dX0_set_36 : decode cX0_set 36 = .ok (.iload_n 1, 1) := dk_27 (dk_at dksX0_set_1 14 rfl rfl)
theorem dX0_set_37 : decode cX0_set 37 = .ok (.invokestatic 92, 3) := dk_184 0 92 (dk_at dksX0_set_1 15 rfl rfl)
theorem dX0_set_40 : decode cX0_set 40 = .ok (.i2l, 1) := dk_133 (dk_at dksX0_set_1 18 rfl rfl)
theorem dX0_set_41 : decode cX0_set 41 = .ok (.iload_n 1, 1) := dk_27 (dk_at dksX0_set_1 19 rfl rfl)
theorem dX0_set_42 : decode cX0_set 42 = .ok (.invokestatic 95, 3) := dk_184 0 95 (dk_at dksX0_set_1 20 rfl rfl)
theorem dX0_set_45 : decode cX0_set 45 = .ok (.i2l, 1) := dk_133 (dk_at dksX0_set_1 23 rfl rfl)
theorem dX0_set_46 : decode cX0_set 46 = .ok (.invokestatic 5, 3) := dk_184 0 5 (dk_at dksX0_set_2 0 rfl rfl)
theorem dX0_set_49 : decode cX0_set 49 = .ok (.ifCond .ne 6, 3) := dk_154 0 6 (dk_at dksX0_set_2 3 rfl rfl)
theorem dX0_set_52 : decode cX0_set 52 = .ok (.bipush (-2), 2) := dk_16 254 (dk_at dksX0_set_2 6 rfl rfl)
theorem dX0_set_54 : decode cX0_set 54 = .ok (.ireturn, 1) := dk_172 (dk_at dksX0_set_2 8 rfl rfl)
theorem dX0_set_55 : decode cX0_set 55 = .ok (.aload_n 0, 1) := dk_42 (dk_at dksX0_set_2 9 rfl rfl)
theorem dX0_set_56 : decode cX0_set 56 = .ok (.getfield 98, 3) := dk_180 0 98 (dk_at dksX0_set_2 10 rfl rfl)
theorem dX0_set_59 : decode cX0_set 59 = .ok (.iload_n 1, 1) := dk_27 (dk_at dksX0_set_2 13 rfl rfl)
theorem dX0_set_60 : decode cX0_set 60 = .ok (.iconst 4, 1) := dk_7 (dk_at dksX0_set_2 14 rfl rfl)
theorem dX0_set_61 : decode cX0_set 61 = .ok (.isub, 1) := dk_100 (dk_at dksX0_set_2 15 rfl rfl)
theorem dX0_set_62 : decode cX0_set 62 = .ok (.iaload, 1) := dk_46 (dk_at dksX0_set_2 16 rfl rfl)
theorem dX0_set_63 : decode cX0_set 63 = .ok (.istore 4, 2) := dk_54 4 (dk_at dksX0_set_2 17 rfl rfl)
theorem dX0_set_65 : decode cX0_set 65 = .ok (.aload_n 0, 1) := dk_42 (dk_at dksX0_set_2 19 rfl rfl)
theorem dX0_set_66 : decode cX0_set 66 = .ok (.getfield 98, 3) := dk_180 0 98 (dk_at dksX0_set_2 20 rfl rfl)
theorem dX0_set_69 : decode cX0_set 69 = .ok (.iload_n 1, 1) := dk_27 (dk_at dksX0_set_2 23 rfl rfl)
theorem dX0_set_70 : decode cX0_set 70 = .ok (.iconst 4, 1) := dk_7 (dk_at dksX0_set_3 0 rfl rfl)
theorem dX0_set_71 : decode cX0_set 71 = .ok (.isub, 1) := dk_100 (dk_at dksX0_set_3 1 rfl rfl)
theorem dX0_set_72 : decode cX0_set 72 = .ok (.iload_n 3, 1) := dk_29 (dk_at dksX0_set_3 2 rfl rfl)
theorem dX0_set_73 : decode cX0_set 73 = .ok (.iastore, 1) := dk_79 (dk_at dksX0_set_3 3 rfl rfl)
theorem dX0_set_74 : decode cX0_set 74 = .ok (.iload 4, 2) := dk_21 4 (dk_at dksX0_set_3 4 rfl rfl)
theorem dX0_set_76 : decode cX0_set 76 = .ok (.ireturn, 1) := dk_172 (dk_at dksX0_set_3 6 rfl rfl)
abbrev cX0_setBoat : ByteArray := prog_1_method_7_code
def yX0_setBoat : MethodName := ⟨RX0, "setBoat", "(III)I"⟩
def dkwX0_setBoat_7 : List UInt8 := [181, 0, 79, 21, 6, 172]
abbrev dktX0_setBoat_7 : List UInt8 := dkwX0_setBoat_7 ++ []
def dkwX0_setBoat_6 : List UInt8 := [42, 180, 0, 48, 28, 50, 27, 6, 160, 0, 7, 29, 167, 0, 12, 42, 180, 0, 48, 28, 50, 180, 0, 79]
abbrev dktX0_setBoat_6 : List UInt8 := dkwX0_setBoat_6 ++ dktX0_setBoat_7
def dkwX0_setBoat_5 : List UInt8 := [28, 46, 79, 42, 180, 0, 63, 28, 27, 5, 160, 0, 7, 29, 167, 0, 9, 42, 180, 0, 63, 28, 46, 79]
abbrev dktX0_setBoat_5 : List UInt8 := dkwX0_setBoat_5 ++ dktX0_setBoat_6
def dkwX0_setBoat_4 : List UInt8 := [180, 0, 56, 28, 46, 79, 42, 180, 0, 60, 28, 27, 4, 160, 0, 7, 29, 167, 0, 9, 42, 180, 0, 60]
abbrev dktX0_setBoat_4 : List UInt8 := dkwX0_setBoat_4 ++ dktX0_setBoat_5
def dkwX0_setBoat_3 : List UInt8 := [172, 42, 28, 27, 182, 0, 75, 54, 6, 42, 180, 0, 56, 28, 27, 154, 0, 7, 29, 167, 0, 9, 42]
abbrev dktX0_setBoat_3 : List UInt8 := dkwX0_setBoat_3 ++ dktX0_setBoat_4
def dkwX0_setBoat_2 : List UInt8 := [42, 28, 182, 0, 72, 153, 0, 17, 29, 133, 21, 4, 133, 21, 5, 133, 184, 0, 5, 154, 0, 6, 16, 254]
abbrev dktX0_setBoat_2 : List UInt8 := dkwX0_setBoat_2 ++ dktX0_setBoat_3
def dkwX0_setBoat_1 : List UInt8 := [160, 0, 9, 17, 3, 231, 167, 0, 16, 27, 5, 160, 0, 9, 17, 0, 240, 167, 0, 5, 16, 9, 54, 5]
abbrev dktX0_setBoat_1 : List UInt8 := dkwX0_setBoat_1 ++ dktX0_setBoat_2
def dkwX0_setBoat_0 : List UInt8 := [27, 5, 160, 0, 7, 8, 167, 0, 4, 3, 54, 4, 27, 154, 0, 8, 16, 47, 167, 0, 27, 27, 4]
abbrev dktX0_setBoat_0 : List UInt8 := dkwX0_setBoat_0 ++ dktX0_setBoat_1
theorem dksX0_setBoat_0 : cX0_setBoat.data.toList.drop 0 = dktX0_setBoat_0 := by decide +kernel
theorem dksX0_setBoat_1 : cX0_setBoat.data.toList.drop 23 = dktX0_setBoat_1 := dk_seg dksX0_setBoat_0 23 rfl rfl
theorem dksX0_setBoat_2 : cX0_setBoat.data.toList.drop 47 = dktX0_setBoat_2 := dk_seg dksX0_setBoat_1 24 rfl rfl
theorem dksX0_setBoat_3 : cX0_setBoat.data.toList.drop 71 = dktX0_setBoat_3 := dk_seg dksX0_setBoat_2 24 rfl rfl
theorem dksX0_setBoat_4 : cX0_setBoat.data.toList.drop 94 = dktX0_setBoat_4 := dk_seg dksX0_setBoat_3 23 rfl rfl
theorem dksX0_setBoat_5 : cX0_setBoat.data.toList.drop 118 = dktX0_setBoat_5 := dk_seg dksX0_setBoat_4 24 rfl rfl
theorem dksX0_setBoat_6 : cX0_setBoat.data.toList.drop 142 = dktX0_setBoat_6 := dk_seg dksX0_setBoat_5 24 rfl rfl
theorem dksX0_setBoat_7 : cX0_setBoat.data.toList.drop 166 = dktX0_setBoat_7 := dk_seg dksX0_setBoat_6 24 rfl rfl
theorem dX0_setBoat_0 : decode cX0_setBoat 0 = .ok (.iload_n 1, 1) := dk_27 (dk_at dksX0_setBoat_0 0 rfl rfl)
theorem dX0_setBoat_1 : decode cX0_setBoat 1 = .ok (.iconst 2, 1) := dk_5 (dk_at dksX0_setBoat_0 1 rfl rfl)
theorem dX0_setBoat_2 : decode cX0_setBoat 2 = .ok (.if_icmp .ne 7, 3) := dk_160 0 7 (dk_at dksX0_setBoat_0 2 rfl rfl)
theorem dX0_setBoat_5 : decode cX0_setBoat 5 = .ok (.iconst 5, 1) := dk_8 (dk_at dksX0_setBoat_0 5 rfl rfl)
theorem dX0_setBoat_6 : decode cX0_setBoat 6 = .ok (.goto 4, 3) := dk_167 0 4 (dk_at dksX0_setBoat_0 6 rfl rfl)
theorem dX0_setBoat_9 : decode cX0_setBoat 9 = .ok (.iconst 0, 1) := dk_3 (dk_at dksX0_setBoat_0 9 rfl rfl)
theorem dX0_setBoat_10 : decode cX0_setBoat 10 = .ok (.istore 4, 2) := dk_54 4 (dk_at dksX0_setBoat_0 10 rfl rfl)
theorem dX0_setBoat_12 : decode cX0_setBoat 12 = .ok (.iload_n 1, 1) := dk_27 (dk_at dksX0_setBoat_0 12 rfl rfl)
theorem dX0_setBoat_13 : decode cX0_setBoat 13 = .ok (.ifCond .ne 8, 3) := dk_154 0 8 (dk_at dksX0_setBoat_0 13 rfl rfl)
theorem dX0_setBoat_16 : decode cX0_setBoat 16 = .ok (.bipush 47, 2) := dk_16 47 (dk_at dksX0_setBoat_0 16 rfl rfl)
theorem dX0_setBoat_18 : decode cX0_setBoat 18 = .ok (.goto 27, 3) := dk_167 0 27 (dk_at dksX0_setBoat_0 18 rfl rfl)
theorem dX0_setBoat_21 : decode cX0_setBoat 21 = .ok (.iload_n 1, 1) := dk_27 (dk_at dksX0_setBoat_0 21 rfl rfl)
theorem dX0_setBoat_22 : decode cX0_setBoat 22 = .ok (.iconst 1, 1) := dk_4 (dk_at dksX0_setBoat_0 22 rfl rfl)
theorem dX0_setBoat_23 : decode cX0_setBoat 23 = .ok (.if_icmp .ne 9, 3) := dk_160 0 9 (dk_at dksX0_setBoat_1 0 rfl rfl)
theorem dX0_setBoat_26 : decode cX0_setBoat 26 = .ok (.sipush 999, 3) := dk_17 3 231 (dk_at dksX0_setBoat_1 3 rfl rfl)
theorem dX0_setBoat_29 : decode cX0_setBoat 29 = .ok (.goto 16, 3) := dk_167 0 16 (dk_at dksX0_setBoat_1 6 rfl rfl)
theorem dX0_setBoat_32 : decode cX0_setBoat 32 = .ok (.iload_n 1, 1) := dk_27 (dk_at dksX0_setBoat_1 9 rfl rfl)
theorem dX0_setBoat_33 : decode cX0_setBoat 33 = .ok (.iconst 2, 1) := dk_5 (dk_at dksX0_setBoat_1 10 rfl rfl)
theorem dX0_setBoat_34 : decode cX0_setBoat 34 = .ok (.if_icmp .ne 9, 3) := dk_160 0 9 (dk_at dksX0_setBoat_1 11 rfl rfl)
theorem dX0_setBoat_37 : decode cX0_setBoat 37 = .ok (.sipush 240, 3) := dk_17 0 240 (dk_at dksX0_setBoat_1 14 rfl rfl)
theorem dX0_setBoat_40 : decode cX0_setBoat 40 = .ok (.goto 5, 3) := dk_167 0 5 (dk_at dksX0_setBoat_1 17 rfl rfl)
theorem dX0_setBoat_43 : decode cX0_setBoat 43 = .ok (.bipush 9, 2) := dk_16 9 (dk_at dksX0_setBoat_1 20 rfl rfl)
theorem dX0_setBoat_45 : decode cX0_setBoat 45 = .ok (.istore 5, 2) := dk_54 5 (dk_at dksX0_setBoat_1 22 rfl rfl)
theorem dX0_setBoat_47 : decode cX0_setBoat 47 = .ok (.aload_n 0, 1) := dk_42 (dk_at dksX0_setBoat_2 0 rfl rfl)
theorem dX0_setBoat_48 : decode cX0_setBoat 48 = .ok (.iload_n 2, 1) := dk_28 (dk_at dksX0_setBoat_2 1 rfl rfl)
theorem dX0_setBoat_49 : decode cX0_setBoat 49 = .ok (.invokevirtual 72, 3) := dk_182 0 72 (dk_at dksX0_setBoat_2 2 rfl rfl)
theorem dX0_setBoat_52 : decode cX0_setBoat 52 = .ok (.ifCond .eq 17, 3) := dk_153 0 17 (dk_at dksX0_setBoat_2 5 rfl rfl)
theorem dX0_setBoat_55 : decode cX0_setBoat 55 = .ok (.iload_n 3, 1) := dk_29 (dk_at dksX0_setBoat_2 8 rfl rfl)
theorem dX0_setBoat_56 : decode cX0_setBoat 56 = .ok (.i2l, 1) := dk_133 (dk_at dksX0_setBoat_2 9 rfl rfl)
theorem dX0_setBoat_57 : decode cX0_setBoat 57 = .ok (.iload 4, 2) := dk_21 4 (dk_at dksX0_setBoat_2 10 rfl rfl)
theorem dX0_setBoat_59 : decode cX0_setBoat 59 = .ok (.i2l, 1) := dk_133 (dk_at dksX0_setBoat_2 12 rfl rfl)
theorem dX0_setBoat_60 : decode cX0_setBoat 60 = .ok (.iload 5, 2) := dk_21 5 (dk_at dksX0_setBoat_2 13 rfl rfl)
theorem dX0_setBoat_62 : decode cX0_setBoat 62 = .ok (.i2l, 1) := dk_133 (dk_at dksX0_setBoat_2 15 rfl rfl)
theorem dX0_setBoat_63 : decode cX0_setBoat 63 = .ok (.invokestatic 5, 3) := dk_184 0 5 (dk_at dksX0_setBoat_2 16 rfl rfl)
theorem dX0_setBoat_66 : decode cX0_setBoat 66 = .ok (.ifCond .ne 6, 3) := dk_154 0 6 (dk_at dksX0_setBoat_2 19 rfl rfl)
theorem dX0_setBoat_69 : decode cX0_setBoat 69 = .ok (.bipush (-2), 2) := dk_16 254 (dk_at dksX0_setBoat_2 22 rfl rfl)
theorem dX0_setBoat_71 : decode cX0_setBoat 71 = .ok (.ireturn, 1) := dk_172 (dk_at dksX0_setBoat_3 0 rfl rfl)
theorem dX0_setBoat_72 : decode cX0_setBoat 72 = .ok (.aload_n 0, 1) := dk_42 (dk_at dksX0_setBoat_3 1 rfl rfl)
theorem dX0_setBoat_73 : decode cX0_setBoat 73 = .ok (.iload_n 2, 1) := dk_28 (dk_at dksX0_setBoat_3 2 rfl rfl)
theorem dX0_setBoat_74 : decode cX0_setBoat 74 = .ok (.iload_n 1, 1) := dk_27 (dk_at dksX0_setBoat_3 3 rfl rfl)
theorem dX0_setBoat_75 : decode cX0_setBoat 75 = .ok (.invokevirtual 75, 3) := dk_182 0 75 (dk_at dksX0_setBoat_3 4 rfl rfl)
theorem dX0_setBoat_78 : decode cX0_setBoat 78 = .ok (.istore 6, 2) := dk_54 6 (dk_at dksX0_setBoat_3 7 rfl rfl)
theorem dX0_setBoat_80 : decode cX0_setBoat 80 = .ok (.aload_n 0, 1) := dk_42 (dk_at dksX0_setBoat_3 9 rfl rfl)
theorem dX0_setBoat_81 : decode cX0_setBoat 81 = .ok (.getfield 56, 3) := dk_180 0 56 (dk_at dksX0_setBoat_3 10 rfl rfl)
theorem dX0_setBoat_84 : decode cX0_setBoat 84 = .ok (.iload_n 2, 1) := dk_28 (dk_at dksX0_setBoat_3 13 rfl rfl)
theorem dX0_setBoat_85 : decode cX0_setBoat 85 = .ok (.iload_n 1, 1) := dk_27 (dk_at dksX0_setBoat_3 14 rfl rfl)
theorem dX0_setBoat_86 : decode cX0_setBoat 86 = .ok (.ifCond .ne 7, 3) := dk_154 0 7 (dk_at dksX0_setBoat_3 15 rfl rfl)
theorem dX0_setBoat_89 : decode cX0_setBoat 89 = .ok (.iload_n 3, 1) := dk_29 (dk_at dksX0_setBoat_3 18 rfl rfl)
theorem dX0_setBoat_90 : decode cX0_setBoat 90 = .ok (.goto 9, 3) := dk_167 0 9 (dk_at dksX0_setBoat_3 19 rfl rfl)
theorem dX0_setBoat_93 : decode cX0_setBoat 93 = .ok (.aload_n 0, 1) := dk_42 (dk_at dksX0_setBoat_3 22 rfl rfl)
theorem dX0_setBoat_94 : decode cX0_setBoat 94 = .ok (.getfield 56, 3) := dk_180 0 56 (dk_at dksX0_setBoat_4 0 rfl rfl)
theorem dX0_setBoat_97 : decode cX0_setBoat 97 = .ok (.iload_n 2, 1) := dk_28 (dk_at dksX0_setBoat_4 3 rfl rfl)
theorem dX0_setBoat_98 : decode cX0_setBoat 98 = .ok (.iaload, 1) := dk_46 (dk_at dksX0_setBoat_4 4 rfl rfl)
theorem dX0_setBoat_99 : decode cX0_setBoat 99 = .ok (.iastore, 1) := dk_79 (dk_at dksX0_setBoat_4 5 rfl rfl)
theorem dX0_setBoat_100 : decode cX0_setBoat 100 = .ok (.aload_n 0, 1) := dk_42 (dk_at dksX0_setBoat_4 6 rfl rfl)
theorem dX0_setBoat_101 : decode cX0_setBoat 101 = .ok (.getfield 60, 3) := dk_180 0 60 (dk_at dksX0_setBoat_4 7 rfl rfl)
theorem dX0_setBoat_104 : decode cX0_setBoat 104 = .ok (.iload_n 2, 1) := dk_28 (dk_at dksX0_setBoat_4 10 rfl rfl)
theorem dX0_setBoat_105 : decode cX0_setBoat 105 = .ok (.iload_n 1, 1) := dk_27 (dk_at dksX0_setBoat_4 11 rfl rfl)
theorem dX0_setBoat_106 : decode cX0_setBoat 106 = .ok (.iconst 1, 1) := dk_4 (dk_at dksX0_setBoat_4 12 rfl rfl)
theorem dX0_setBoat_107 : decode cX0_setBoat 107 = .ok (.if_icmp .ne 7, 3) := dk_160 0 7 (dk_at dksX0_setBoat_4 13 rfl rfl)
theorem dX0_setBoat_110 : decode cX0_setBoat 110 = .ok (.iload_n 3, 1) := dk_29 (dk_at dksX0_setBoat_4 16 rfl rfl)
theorem dX0_setBoat_111 : decode cX0_setBoat 111 = .ok (.goto 9, 3) := dk_167 0 9 (dk_at dksX0_setBoat_4 17 rfl rfl)
theorem dX0_setBoat_114 : decode cX0_setBoat 114 = .ok (.aload_n 0, 1) := dk_42 (dk_at dksX0_setBoat_4 20 rfl rfl)
theorem dX0_setBoat_115 : decode cX0_setBoat 115 = .ok (.getfield 60, 3) := dk_180 0 60 (dk_at dksX0_setBoat_4 21 rfl rfl)
theorem dX0_setBoat_118 : decode cX0_setBoat 118 = .ok (.iload_n 2, 1) := dk_28 (dk_at dksX0_setBoat_5 0 rfl rfl)
theorem dX0_setBoat_119 : decode cX0_setBoat 119 = .ok (.iaload, 1) := dk_46 (dk_at dksX0_setBoat_5 1 rfl rfl)
theorem dX0_setBoat_120 : decode cX0_setBoat 120 = .ok (.iastore, 1) := dk_79 (dk_at dksX0_setBoat_5 2 rfl rfl)
theorem dX0_setBoat_121 : decode cX0_setBoat 121 = .ok (.aload_n 0, 1) := dk_42 (dk_at dksX0_setBoat_5 3 rfl rfl)
theorem dX0_setBoat_122 : decode cX0_setBoat 122 = .ok (.getfield 63, 3) := dk_180 0 63 (dk_at dksX0_setBoat_5 4 rfl rfl)
theorem dX0_setBoat_125 : decode cX0_setBoat 125 = .ok (.iload_n 2, 1) := dk_28 (dk_at dksX0_setBoat_5 7 rfl rfl)
theorem dX0_setBoat_126 : decode cX0_setBoat 126 = .ok (.iload_n 1, 1) := dk_27 (dk_at dksX0_setBoat_5 8 rfl rfl)
theorem dX0_setBoat_127 : decode cX0_setBoat 127 = .ok (.iconst 2, 1) := dk_5 (dk_at dksX0_setBoat_5 9 rfl rfl)
theorem dX0_setBoat_128 : decode cX0_setBoat 128 = .ok (.if_icmp .ne 7, 3) := dk_160 0 7 (dk_at dksX0_setBoat_5 10 rfl rfl)
theorem dX0_setBoat_131 : decode cX0_setBoat 131 = .ok (.iload_n 3, 1) := dk_29 (dk_at dksX0_setBoat_5 13 rfl rfl)
theorem dX0_setBoat_132 : decode cX0_setBoat 132 = .ok (.goto 9, 3) := dk_167 0 9 (dk_at dksX0_setBoat_5 14 rfl rfl)
theorem dX0_setBoat_135 : decode cX0_setBoat 135 = .ok (.aload_n 0, 1) := dk_42 (dk_at dksX0_setBoat_5 17 rfl rfl)
theorem dX0_setBoat_136 : decode cX0_setBoat 136 = .ok (.getfield 63, 3) := dk_180 0 63 (dk_at dksX0_setBoat_5 18 rfl rfl)
theorem dX0_setBoat_139 : decode cX0_setBoat 139 = .ok (.iload_n 2, 1) := dk_28 (dk_at dksX0_setBoat_5 21 rfl rfl)
theorem dX0_setBoat_140 : decode cX0_setBoat 140 = .ok (.iaload, 1) := dk_46 (dk_at dksX0_setBoat_5 22 rfl rfl)
theorem dX0_setBoat_141 : decode cX0_setBoat 141 = .ok (.iastore, 1) := dk_79 (dk_at dksX0_setBoat_5 23 rfl rfl)
theorem dX0_setBoat_142 : decode cX0_setBoat 142 = .ok (.aload_n 0, 1) := dk_42 (dk_at dksX0_setBoat_6 0 rfl rfl)
theorem dX0_setBoat_143 : decode cX0_setBoat 143 = .ok (.getfield 48, 3) := dk_180 0 48 (dk_at dksX0_setBoat_6 1 rfl rfl)
theorem dX0_setBoat_146 : decode cX0_setBoat 146 = .ok (.iload_n 2, 1) := dk_28 (dk_at dksX0_setBoat_6 4 rfl rfl)
theorem dX0_setBoat_147 : decode cX0_setBoat 147 = .ok (.aaload, 1) := dk_50 (dk_at dksX0_setBoat_6 5 rfl rfl)
theorem dX0_setBoat_148 : decode cX0_setBoat 148 = .ok (.iload_n 1, 1) := dk_27 (dk_at dksX0_setBoat_6 6 rfl rfl)
theorem dX0_setBoat_149 : decode cX0_setBoat 149 = .ok (.iconst 3, 1) := dk_6 (dk_at dksX0_setBoat_6 7 rfl rfl)
theorem dX0_setBoat_150 : decode cX0_setBoat 150 = .ok (.if_icmp .ne 7, 3) := dk_160 0 7 (dk_at dksX0_setBoat_6 8 rfl rfl)
theorem dX0_setBoat_153 : decode cX0_setBoat 153 = .ok (.iload_n 3, 1) := dk_29 (dk_at dksX0_setBoat_6 11 rfl rfl)
theorem dX0_setBoat_154 : decode cX0_setBoat 154 = .ok (.goto 12, 3) := dk_167 0 12 (dk_at dksX0_setBoat_6 12 rfl rfl)
theorem dX0_setBoat_157 : decode cX0_setBoat 157 = .ok (.aload_n 0, 1) := dk_42 (dk_at dksX0_setBoat_6 15 rfl rfl)
theorem dX0_setBoat_158 : decode cX0_setBoat 158 = .ok (.getfield 48, 3) := dk_180 0 48 (dk_at dksX0_setBoat_6 16 rfl rfl)
theorem dX0_setBoat_161 : decode cX0_setBoat 161 = .ok (.iload_n 2, 1) := dk_28 (dk_at dksX0_setBoat_6 19 rfl rfl)
theorem dX0_setBoat_162 : decode cX0_setBoat 162 = .ok (.aaload, 1) := dk_50 (dk_at dksX0_setBoat_6 20 rfl rfl)
theorem dX0_setBoat_163 : decode cX0_setBoat 163 = .ok (.getfield 79, 3) := dk_180 0 79 (dk_at dksX0_setBoat_6 21 rfl rfl)
theorem dX0_setBoat_166 : decode cX0_setBoat 166 = .ok (.putfield 79, 3) := dk_181 0 79 (dk_at dksX0_setBoat_7 0 rfl rfl)
theorem dX0_setBoat_169 : decode cX0_setBoat 169 = .ok (.iload 6, 2) := dk_21 6 (dk_at dksX0_setBoat_7 3 rfl rfl)
theorem dX0_setBoat_171 : decode cX0_setBoat 171 = .ok (.ireturn, 1) := dk_172 (dk_at dksX0_setBoat_7 5 rfl rfl)
abbrev cX0_isBoat : ByteArray := prog_1_method_4_code
def yX0_isBoat : MethodName := ⟨RX0, "isBoat", "(I)Z"⟩
def dkwX0_isBoat_0 : List UInt8 := [27, 133, 9, 42, 180, 0, 15, 4, 100, 133, 184, 0, 5, 172]
abbrev dktX0_isBoat_0 : List UInt8 := dkwX0_isBoat_0 ++ []
theorem dksX0_isBoat_0 : cX0_isBoat.data.toList.drop 0 = dktX0_isBoat_0 := by decide +kernel
theorem dX0_isBoat_0 : decode cX0_isBoat 0 = .ok (.iload_n 1, 1) := dk_27 (dk_at dksX0_isBoat_0 0 rfl rfl)
theorem dX0_isBoat_1 : decode cX0_isBoat 1 = .ok (.i2l, 1) := dk_133 (dk_at dksX0_isBoat_0 1 rfl rfl)
theorem dX0_isBoat_2 : decode cX0_isBoat 2 = .ok (.lconst 0, 1) := dk_9 (dk_at dksX0_isBoat_0 2 rfl rfl)
theorem dX0_isBoat_3 : decode cX0_isBoat 3 = .ok (.aload_n 0, 1) := dk_42 (dk_at dksX0_isBoat_0 3 rfl rfl)
theorem dX0_isBoat_4 : decode cX0_isBoat 4 = .ok (.getfield 15, 3) := dk_180 0 15 (dk_at dksX0_isBoat_0 4 rfl rfl)
theorem dX0_isBoat_7 : decode cX0_isBoat 7 = .ok (.iconst 1, 1) := dk_4 (dk_at dksX0_isBoat_0 7 rfl rfl)
theorem dX0_isBoat_8 : decode cX0_isBoat 8 = .ok (.isub, 1) := dk_100 (dk_at dksX0_isBoat_0 8 rfl rfl)
theorem dX0_isBoat_9 : decode cX0_isBoat 9 = .ok (.i2l, 1) := dk_133 (dk_at dksX0_isBoat_0 9 rfl rfl)
theorem dX0_isBoat_10 : decode cX0_isBoat 10 = .ok (.invokestatic 5, 3) := dk_184 0 5 (dk_at dksX0_isBoat_0 10 rfl rfl)
theorem dX0_isBoat_13 : decode cX0_isBoat 13 = .ok (.ireturn, 1) := dk_172 (dk_at dksX0_isBoat_0 13 rfl rfl)
abbrev cX0_toldOf : ByteArray := prog_1_method_11_code
def yX0_toldOf : MethodName := ⟨RX0, "toldOf", "(II)I"⟩
def dkwX0_toldOf_2 : List UInt8 := [180, 0, 79, 172]
abbrev dktX0_toldOf_2 : List UInt8 := dkwX0_toldOf_2 ++ []
def dkwX0_toldOf_1 : List UInt8 := [167, 0, 26, 28, 5, 160, 0, 12, 42, 180, 0, 63, 27, 46, 167, 0, 12, 42, 180, 0, 48, 27, 50]
abbrev dktX0_toldOf_1 : List UInt8 := dkwX0_toldOf_1 ++ dktX0_toldOf_2
def dkwX0_toldOf_0 : List UInt8 := [28, 154, 0, 12, 42, 180, 0, 56, 27, 46, 167, 0, 40, 28, 4, 160, 0, 12, 42, 180, 0, 60, 27, 46]
abbrev dktX0_toldOf_0 : List UInt8 := dkwX0_toldOf_0 ++ dktX0_toldOf_1
theorem dksX0_toldOf_0 : cX0_toldOf.data.toList.drop 0 = dktX0_toldOf_0 := by decide +kernel
theorem dksX0_toldOf_1 : cX0_toldOf.data.toList.drop 24 = dktX0_toldOf_1 := dk_seg dksX0_toldOf_0 24 rfl rfl
theorem dksX0_toldOf_2 : cX0_toldOf.data.toList.drop 47 = dktX0_toldOf_2 := dk_seg dksX0_toldOf_1 23 rfl rfl
theorem dX0_toldOf_0 : decode cX0_toldOf 0 = .ok (.iload_n 2, 1) := dk_28 (dk_at dksX0_toldOf_0 0 rfl rfl)
theorem dX0_toldOf_1 : decode cX0_toldOf 1 = .ok (.ifCond .ne 12, 3) := dk_154 0 12 (dk_at dksX0_toldOf_0 1 rfl rfl)
theorem dX0_toldOf_4 : decode cX0_toldOf 4 = .ok (.aload_n 0, 1) := dk_42 (dk_at dksX0_toldOf_0 4 rfl rfl)
theorem dX0_toldOf_5 : decode cX0_toldOf 5 = .ok (.getfield 56, 3) := dk_180 0 56 (dk_at dksX0_toldOf_0 5 rfl rfl)
theorem dX0_toldOf_8 : decode cX0_toldOf 8 = .ok (.iload_n 1, 1) := dk_27 (dk_at dksX0_toldOf_0 8 rfl rfl)
theorem dX0_toldOf_9 : decode cX0_toldOf 9 = .ok (.iaload, 1) := dk_46 (dk_at dksX0_toldOf_0 9 rfl rfl)
theorem dX0_toldOf_10 : decode cX0_toldOf 10 = .ok (.goto 40, 3) := dk_167 0 40 (dk_at dksX0_toldOf_0 10 rfl rfl)
theorem dX0_toldOf_13 : decode cX0_toldOf 13 = .ok (.iload_n 2, 1) := dk_28 (dk_at dksX0_toldOf_0 13 rfl rfl)
theorem dX0_toldOf_14 : decode cX0_toldOf 14 = .ok (.iconst 1, 1) := dk_4 (dk_at dksX0_toldOf_0 14 rfl rfl)
theorem dX0_toldOf_15 : decode cX0_toldOf 15 = .ok (.if_icmp .ne 12, 3) := dk_160 0 12 (dk_at dksX0_toldOf_0 15 rfl rfl)
theorem dX0_toldOf_18 : decode cX0_toldOf 18 = .ok (.aload_n 0, 1) := dk_42 (dk_at dksX0_toldOf_0 18 rfl rfl)
theorem dX0_toldOf_19 : decode cX0_toldOf 19 = .ok (.getfield 60, 3) := dk_180 0 60 (dk_at dksX0_toldOf_0 19 rfl rfl)
theorem dX0_toldOf_22 : decode cX0_toldOf 22 = .ok (.iload_n 1, 1) := dk_27 (dk_at dksX0_toldOf_0 22 rfl rfl)
theorem dX0_toldOf_23 : decode cX0_toldOf 23 = .ok (.iaload, 1) := dk_46 (dk_at dksX0_toldOf_0 23 rfl rfl)
theorem dX0_toldOf_24 : decode cX0_toldOf 24 = .ok (.goto 26, 3) := dk_167 0 26 (dk_at dksX0_toldOf_1 0 rfl rfl)
theorem dX0_toldOf_27 : decode cX0_toldOf 27 = .ok (.iload_n 2, 1) := dk_28 (dk_at dksX0_toldOf_1 3 rfl rfl)
theorem dX0_toldOf_28 : decode cX0_toldOf 28 = .ok (.iconst 2, 1) := dk_5 (dk_at dksX0_toldOf_1 4 rfl rfl)
theorem dX0_toldOf_29 : decode cX0_toldOf 29 = .ok (.if_icmp .ne 12, 3) := dk_160 0 12 (dk_at dksX0_toldOf_1 5 rfl rfl)
theorem dX0_toldOf_32 : decode cX0_toldOf 32 = .ok (.aload_n 0, 1) := dk_42 (dk_at dksX0_toldOf_1 8 rfl rfl)
theorem dX0_toldOf_33 : decode cX0_toldOf 33 = .ok (.getfield 63, 3) := dk_180 0 63 (dk_at dksX0_toldOf_1 9 rfl rfl)
theorem dX0_toldOf_36 : decode cX0_toldOf 36 = .ok (.iload_n 1, 1) := dk_27 (dk_at dksX0_toldOf_1 12 rfl rfl)
theorem dX0_toldOf_37 : decode cX0_toldOf 37 = .ok (.iaload, 1) := dk_46 (dk_at dksX0_toldOf_1 13 rfl rfl)
theorem dX0_toldOf_38 : decode cX0_toldOf 38 = .ok (.goto 12, 3) := dk_167 0 12 (dk_at dksX0_toldOf_1 14 rfl rfl)
theorem dX0_toldOf_41 : decode cX0_toldOf 41 = .ok (.aload_n 0, 1) := dk_42 (dk_at dksX0_toldOf_1 17 rfl rfl)
theorem dX0_toldOf_42 : decode cX0_toldOf 42 = .ok (.getfield 48, 3) := dk_180 0 48 (dk_at dksX0_toldOf_1 18 rfl rfl)
theorem dX0_toldOf_45 : decode cX0_toldOf 45 = .ok (.iload_n 1, 1) := dk_27 (dk_at dksX0_toldOf_1 21 rfl rfl)
theorem dX0_toldOf_46 : decode cX0_toldOf 46 = .ok (.aaload, 1) := dk_50 (dk_at dksX0_toldOf_1 22 rfl rfl)
theorem dX0_toldOf_47 : decode cX0_toldOf 47 = .ok (.getfield 79, 3) := dk_180 0 79 (dk_at dksX0_toldOf_2 0 rfl rfl)
theorem dX0_toldOf_50 : decode cX0_toldOf 50 = .ok (.ireturn, 1) := dk_172 (dk_at dksX0_toldOf_2 3 rfl rfl)
abbrev cX0_lowOf : ByteArray := prog_1_method_8_code
def yX0_lowOf : MethodName := ⟨RX0, "lowOf", "(I)I"⟩
def dkwX0_lowOf_0 : List UInt8 := [26, 16, 6, 159, 0, 9, 26, 16, 7, 160, 0, 7, 4, 167, 0, 4, 3, 172]
abbrev dktX0_lowOf_0 : List UInt8 := dkwX0_lowOf_0 ++ []
theorem dksX0_lowOf_0 : cX0_lowOf.data.toList.drop 0 = dktX0_lowOf_0 := by decide +kernel
theorem dX0_lowOf_0 : decode cX0_lowOf 0 = .ok (.iload_n 0, 1) := dk_26 (dk_at dksX0_lowOf_0 0 rfl rfl)
theorem dX0_lowOf_1 : decode cX0_lowOf 1 = .ok (.bipush 6, 2) := dk_16 6 (dk_at dksX0_lowOf_0 1 rfl rfl)
theorem dX0_lowOf_3 : decode cX0_lowOf 3 = .ok (.if_icmp .eq 9, 3) := dk_159 0 9 (dk_at dksX0_lowOf_0 3 rfl rfl)
theorem dX0_lowOf_6 : decode cX0_lowOf 6 = .ok (.iload_n 0, 1) := dk_26 (dk_at dksX0_lowOf_0 6 rfl rfl)
theorem dX0_lowOf_7 : decode cX0_lowOf 7 = .ok (.bipush 7, 2) := dk_16 7 (dk_at dksX0_lowOf_0 7 rfl rfl)
theorem dX0_lowOf_9 : decode cX0_lowOf 9 = .ok (.if_icmp .ne 7, 3) := dk_160 0 7 (dk_at dksX0_lowOf_0 9 rfl rfl)
theorem dX0_lowOf_12 : decode cX0_lowOf 12 = .ok (.iconst 1, 1) := dk_4 (dk_at dksX0_lowOf_0 12 rfl rfl)
theorem dX0_lowOf_13 : decode cX0_lowOf 13 = .ok (.goto 4, 3) := dk_167 0 4 (dk_at dksX0_lowOf_0 13 rfl rfl)
theorem dX0_lowOf_16 : decode cX0_lowOf 16 = .ok (.iconst 0, 1) := dk_3 (dk_at dksX0_lowOf_0 16 rfl rfl)
theorem dX0_lowOf_17 : decode cX0_lowOf 17 = .ok (.ireturn, 1) := dk_172 (dk_at dksX0_lowOf_0 17 rfl rfl)
abbrev cX0_highOf : ByteArray := prog_1_method_9_code
def yX0_highOf : MethodName := ⟨RX0, "highOf", "(I)I"⟩
def dkwX0_highOf_1 : List UInt8 := [160, 0, 8, 16, 20, 167, 0, 5, 16, 9, 172]
abbrev dktX0_highOf_1 : List UInt8 := dkwX0_highOf_1 ++ []
def dkwX0_highOf_0 : List UInt8 := [26, 7, 160, 0, 8, 16, 47, 167, 0, 27, 26, 16, 6, 160, 0, 8, 16, 6, 167, 0, 16, 26, 16, 8]
abbrev dktX0_highOf_0 : List UInt8 := dkwX0_highOf_0 ++ dktX0_highOf_1
theorem dksX0_highOf_0 : cX0_highOf.data.toList.drop 0 = dktX0_highOf_0 := by decide +kernel
theorem dksX0_highOf_1 : cX0_highOf.data.toList.drop 24 = dktX0_highOf_1 := dk_seg dksX0_highOf_0 24 rfl rfl
theorem dX0_highOf_0 : decode cX0_highOf 0 = .ok (.iload_n 0, 1) := dk_26 (dk_at dksX0_highOf_0 0 rfl rfl)
theorem dX0_highOf_1 : decode cX0_highOf 1 = .ok (.iconst 4, 1) := dk_7 (dk_at dksX0_highOf_0 1 rfl rfl)
theorem dX0_highOf_2 : decode cX0_highOf 2 = .ok (.if_icmp .ne 8, 3) := dk_160 0 8 (dk_at dksX0_highOf_0 2 rfl rfl)
theorem dX0_highOf_5 : decode cX0_highOf 5 = .ok (.bipush 47, 2) := dk_16 47 (dk_at dksX0_highOf_0 5 rfl rfl)
theorem dX0_highOf_7 : decode cX0_highOf 7 = .ok (.goto 27, 3) := dk_167 0 27 (dk_at dksX0_highOf_0 7 rfl rfl)
theorem dX0_highOf_10 : decode cX0_highOf 10 = .ok (.iload_n 0, 1) := dk_26 (dk_at dksX0_highOf_0 10 rfl rfl)
theorem dX0_highOf_11 : decode cX0_highOf 11 = .ok (.bipush 6, 2) := dk_16 6 (dk_at dksX0_highOf_0 11 rfl rfl)
theorem dX0_highOf_13 : decode cX0_highOf 13 = .ok (.if_icmp .ne 8, 3) := dk_160 0 8 (dk_at dksX0_highOf_0 13 rfl rfl)
theorem dX0_highOf_16 : decode cX0_highOf 16 = .ok (.bipush 6, 2) := dk_16 6 (dk_at dksX0_highOf_0 16 rfl rfl)
theorem dX0_highOf_18 : decode cX0_highOf 18 = .ok (.goto 16, 3) := dk_167 0 16 (dk_at dksX0_highOf_0 18 rfl rfl)
theorem dX0_highOf_21 : decode cX0_highOf 21 = .ok (.iload_n 0, 1) := dk_26 (dk_at dksX0_highOf_0 21 rfl rfl)
theorem dX0_highOf_22 : decode cX0_highOf 22 = .ok (.bipush 8, 2) := dk_16 8 (dk_at dksX0_highOf_0 22 rfl rfl)
theorem dX0_highOf_24 : decode cX0_highOf 24 = .ok (.if_icmp .ne 8, 3) := dk_160 0 8 (dk_at dksX0_highOf_1 0 rfl rfl)
theorem dX0_highOf_27 : decode cX0_highOf 27 = .ok (.bipush 20, 2) := dk_16 20 (dk_at dksX0_highOf_1 3 rfl rfl)
theorem dX0_highOf_29 : decode cX0_highOf 29 = .ok (.goto 5, 3) := dk_167 0 5 (dk_at dksX0_highOf_1 5 rfl rfl)
theorem dX0_highOf_32 : decode cX0_highOf 32 = .ok (.bipush 9, 2) := dk_16 9 (dk_at dksX0_highOf_1 8 rfl rfl)
theorem dX0_highOf_34 : decode cX0_highOf 34 = .ok (.ireturn, 1) := dk_172 (dk_at dksX0_highOf_1 10 rfl rfl)
abbrev cX0_told : ByteArray := prog_1_method_12_code
def yX0_told : MethodName := ⟨RX0, "told", "(II)I"⟩
def dkwX0_told_5 : List UInt8 := [27, 42, 180, 0, 116, 182, 0, 119, 172, 42, 27, 28, 182, 0, 75, 172]
abbrev dktX0_told_5 : List UInt8 := dkwX0_told_5 ++ []
def dkwX0_told_4 : List UInt8 := [180, 0, 98, 4, 46, 182, 0, 110, 172, 42, 27, 182, 0, 113, 153, 0, 7, 4, 167, 0, 4, 3, 172, 42]
abbrev dktX0_told_4 : List UInt8 := dkwX0_told_4 ++ dktX0_told_5
def dkwX0_told_3 : List UInt8 := [42, 180, 0, 48, 27, 50, 42, 180, 0, 98, 4, 46, 182, 0, 107, 172, 42, 180, 0, 48, 27, 50, 42]
abbrev dktX0_told_3 : List UInt8 := dkwX0_told_3 ++ dktX0_told_4
def dkwX0_told_2 : List UInt8 := [42, 180, 0, 48, 27, 50, 182, 0, 103, 172, 42, 180, 0, 66, 27, 46, 172, 42, 180, 0, 69, 27, 46, 172]
abbrev dktX0_told_2 : List UInt8 := dkwX0_told_2 ++ dktX0_told_3
def dkwX0_told_1 : List UInt8 := [170, 0, 0, 0, 0, 0, 0, 124, 0, 0, 0, 4, 0, 0, 0, 10, 0, 0, 0, 44, 0, 0, 0, 54, 0, 0, 0, 61, 0, 0, 0, 68, 0, 0, 0, 84, 0, 0, 0, 100, 0, 0, 0, 114]
abbrev dktX0_told_1 : List UInt8 := dkwX0_told_1 ++ dktX0_told_2
def dkwX0_told_0 : List UInt8 := [42, 27, 182, 0, 72, 153, 0, 15, 28, 133, 9, 20, 0, 101, 184, 0, 5, 154, 0, 6, 16, 254, 172, 28]
abbrev dktX0_told_0 : List UInt8 := dkwX0_told_0 ++ dktX0_told_1
theorem dksX0_told_0 : cX0_told.data.toList.drop 0 = dktX0_told_0 := by decide +kernel
theorem dksX0_told_1 : cX0_told.data.toList.drop 24 = dktX0_told_1 := dk_seg dksX0_told_0 24 rfl rfl
theorem dksX0_told_2 : cX0_told.data.toList.drop 68 = dktX0_told_2 := dk_seg dksX0_told_1 44 rfl rfl
theorem dksX0_told_3 : cX0_told.data.toList.drop 92 = dktX0_told_3 := dk_seg dksX0_told_2 24 rfl rfl
theorem dksX0_told_4 : cX0_told.data.toList.drop 115 = dktX0_told_4 := dk_seg dksX0_told_3 23 rfl rfl
theorem dksX0_told_5 : cX0_told.data.toList.drop 139 = dktX0_told_5 := dk_seg dksX0_told_4 24 rfl rfl
theorem dX0_told_0 : decode cX0_told 0 = .ok (.aload_n 0, 1) := dk_42 (dk_at dksX0_told_0 0 rfl rfl)
theorem dX0_told_1 : decode cX0_told 1 = .ok (.iload_n 1, 1) := dk_27 (dk_at dksX0_told_0 1 rfl rfl)
theorem dX0_told_2 : decode cX0_told 2 = .ok (.invokevirtual 72, 3) := dk_182 0 72 (dk_at dksX0_told_0 2 rfl rfl)
theorem dX0_told_5 : decode cX0_told 5 = .ok (.ifCond .eq 15, 3) := dk_153 0 15 (dk_at dksX0_told_0 5 rfl rfl)
theorem dX0_told_8 : decode cX0_told 8 = .ok (.iload_n 2, 1) := dk_28 (dk_at dksX0_told_0 8 rfl rfl)
theorem dX0_told_9 : decode cX0_told 9 = .ok (.i2l, 1) := dk_133 (dk_at dksX0_told_0 9 rfl rfl)
theorem dX0_told_10 : decode cX0_told 10 = .ok (.lconst 0, 1) := dk_9 (dk_at dksX0_told_0 10 rfl rfl)
theorem dX0_told_11 : decode cX0_told 11 = .ok (.ldc2_w 101, 3) := dk_20 0 101 (dk_at dksX0_told_0 11 rfl rfl)
theorem dX0_told_14 : decode cX0_told 14 = .ok (.invokestatic 5, 3) := dk_184 0 5 (dk_at dksX0_told_0 14 rfl rfl)
theorem dX0_told_17 : decode cX0_told 17 = .ok (.ifCond .ne 6, 3) := dk_154 0 6 (dk_at dksX0_told_0 17 rfl rfl)
theorem dX0_told_20 : decode cX0_told 20 = .ok (.bipush (-2), 2) := dk_16 254 (dk_at dksX0_told_0 20 rfl rfl)
theorem dX0_told_22 : decode cX0_told 22 = .ok (.ireturn, 1) := dk_172 (dk_at dksX0_told_0 22 rfl rfl)
theorem dX0_told_23 : decode cX0_told 23 = .ok (.iload_n 2, 1) := dk_28 (dk_at dksX0_told_0 23 rfl rfl)
theorem dX0_told_24 : decode cX0_told 24 = .ok (.tableswitch 124 4 10 #[44, 54, 61, 68, 84, 100, 114], 44) := by decide +kernel
theorem dX0_told_68 : decode cX0_told 68 = .ok (.aload_n 0, 1) := dk_42 (dk_at dksX0_told_2 0 rfl rfl)
theorem dX0_told_69 : decode cX0_told 69 = .ok (.getfield 48, 3) := dk_180 0 48 (dk_at dksX0_told_2 1 rfl rfl)
theorem dX0_told_72 : decode cX0_told 72 = .ok (.iload_n 1, 1) := dk_27 (dk_at dksX0_told_2 4 rfl rfl)
theorem dX0_told_73 : decode cX0_told 73 = .ok (.aaload, 1) := dk_50 (dk_at dksX0_told_2 5 rfl rfl)
theorem dX0_told_74 : decode cX0_told 74 = .ok (.invokevirtual 103, 3) := dk_182 0 103 (dk_at dksX0_told_2 6 rfl rfl)
theorem dX0_told_77 : decode cX0_told 77 = .ok (.ireturn, 1) := dk_172 (dk_at dksX0_told_2 9 rfl rfl)
theorem dX0_told_78 : decode cX0_told 78 = .ok (.aload_n 0, 1) := dk_42 (dk_at dksX0_told_2 10 rfl rfl)
theorem dX0_told_79 : decode cX0_told 79 = .ok (.getfield 66, 3) := dk_180 0 66 (dk_at dksX0_told_2 11 rfl rfl)
theorem dX0_told_82 : decode cX0_told 82 = .ok (.iload_n 1, 1) := dk_27 (dk_at dksX0_told_2 14 rfl rfl)
theorem dX0_told_83 : decode cX0_told 83 = .ok (.iaload, 1) := dk_46 (dk_at dksX0_told_2 15 rfl rfl)
theorem dX0_told_84 : decode cX0_told 84 = .ok (.ireturn, 1) := dk_172 (dk_at dksX0_told_2 16 rfl rfl)
theorem dX0_told_85 : decode cX0_told 85 = .ok (.aload_n 0, 1) := dk_42 (dk_at dksX0_told_2 17 rfl rfl)
theorem dX0_told_86 : decode cX0_told 86 = .ok (.getfield 69, 3) := dk_180 0 69 (dk_at dksX0_told_2 18 rfl rfl)
theorem dX0_told_89 : decode cX0_told 89 = .ok (.iload_n 1, 1) := dk_27 (dk_at dksX0_told_2 21 rfl rfl)
theorem dX0_told_90 : decode cX0_told 90 = .ok (.iaload, 1) := dk_46 (dk_at dksX0_told_2 22 rfl rfl)
theorem dX0_told_91 : decode cX0_told 91 = .ok (.ireturn, 1) := dk_172 (dk_at dksX0_told_2 23 rfl rfl)
theorem dX0_told_92 : decode cX0_told 92 = .ok (.aload_n 0, 1) := dk_42 (dk_at dksX0_told_3 0 rfl rfl)
theorem dX0_told_93 : decode cX0_told 93 = .ok (.getfield 48, 3) := dk_180 0 48 (dk_at dksX0_told_3 1 rfl rfl)
theorem dX0_told_96 : decode cX0_told 96 = .ok (.iload_n 1, 1) := dk_27 (dk_at dksX0_told_3 4 rfl rfl)
theorem dX0_told_97 : decode cX0_told 97 = .ok (.aaload, 1) := dk_50 (dk_at dksX0_told_3 5 rfl rfl)
theorem dX0_told_98 : decode cX0_told 98 = .ok (.aload_n 0, 1) := dk_42 (dk_at dksX0_told_3 6 rfl rfl)
theorem dX0_told_99 : decode cX0_told 99 = .ok (.getfield 98, 3) := dk_180 0 98 (dk_at dksX0_told_3 7 rfl rfl)
theorem dX0_told_102 : decode cX0_told 102 = .ok (.iconst 1, 1) := dk_4 (dk_at dksX0_told_3 10 rfl rfl)
theorem dX0_told_103 : decode cX0_told 103 = .ok (.iaload, 1) := dk_46 (dk_at dksX0_told_3 11 rfl rfl)
theorem dX0_told_104 : decode cX0_told 104 = .ok (.invokevirtual 107, 3) := dk_182 0 107 (dk_at dksX0_told_3 12 rfl rfl)
theorem dX0_told_107 : decode cX0_told 107 = .ok (.ireturn, 1) := dk_172 (dk_at dksX0_told_3 15 rfl rfl)
theorem dX0_told_108 : decode cX0_told 108 = .ok (.aload_n 0, 1) := dk_42 (dk_at dksX0_told_3 16 rfl rfl)
theorem dX0_told_109 : decode cX0_told 109 = .ok (.getfield 48, 3) := dk_180 0 48 (dk_at dksX0_told_3 17 rfl rfl)
theorem dX0_told_112 : decode cX0_told 112 = .ok (.iload_n 1, 1) := dk_27 (dk_at dksX0_told_3 20 rfl rfl)
theorem dX0_told_113 : decode cX0_told 113 = .ok (.aaload, 1) := dk_50 (dk_at dksX0_told_3 21 rfl rfl)
theorem dX0_told_114 : decode cX0_told 114 = .ok (.aload_n 0, 1) := dk_42 (dk_at dksX0_told_3 22 rfl rfl)
theorem dX0_told_115 : decode cX0_told 115 = .ok (.getfield 98, 3) := dk_180 0 98 (dk_at dksX0_told_4 0 rfl rfl)
theorem dX0_told_118 : decode cX0_told 118 = .ok (.iconst 1, 1) := dk_4 (dk_at dksX0_told_4 3 rfl rfl)
theorem dX0_told_119 : decode cX0_told 119 = .ok (.iaload, 1) := dk_46 (dk_at dksX0_told_4 4 rfl rfl)
theorem dX0_told_120 : decode cX0_told 120 = .ok (.invokevirtual 110, 3) := dk_182 0 110 (dk_at dksX0_told_4 5 rfl rfl)
theorem dX0_told_123 : decode cX0_told 123 = .ok (.ireturn, 1) := dk_172 (dk_at dksX0_told_4 8 rfl rfl)
theorem dX0_told_124 : decode cX0_told 124 = .ok (.aload_n 0, 1) := dk_42 (dk_at dksX0_told_4 9 rfl rfl)
theorem dX0_told_125 : decode cX0_told 125 = .ok (.iload_n 1, 1) := dk_27 (dk_at dksX0_told_4 10 rfl rfl)
theorem dX0_told_126 : decode cX0_told 126 = .ok (.invokevirtual 113, 3) := dk_182 0 113 (dk_at dksX0_told_4 11 rfl rfl)
theorem dX0_told_129 : decode cX0_told 129 = .ok (.ifCond .eq 7, 3) := dk_153 0 7 (dk_at dksX0_told_4 14 rfl rfl)
theorem dX0_told_132 : decode cX0_told 132 = .ok (.iconst 1, 1) := dk_4 (dk_at dksX0_told_4 17 rfl rfl)
theorem dX0_told_133 : decode cX0_told 133 = .ok (.goto 4, 3) := dk_167 0 4 (dk_at dksX0_told_4 18 rfl rfl)
theorem dX0_told_136 : decode cX0_told 136 = .ok (.iconst 0, 1) := dk_3 (dk_at dksX0_told_4 21 rfl rfl)
theorem dX0_told_137 : decode cX0_told 137 = .ok (.ireturn, 1) := dk_172 (dk_at dksX0_told_4 22 rfl rfl)
theorem dX0_told_138 : decode cX0_told 138 = .ok (.aload_n 0, 1) := dk_42 (dk_at dksX0_told_4 23 rfl rfl)
theorem dX0_told_139 : decode cX0_told 139 = .ok (.iload_n 1, 1) := dk_27 (dk_at dksX0_told_5 0 rfl rfl)
theorem dX0_told_140 : decode cX0_told 140 = .ok (.aload_n 0, 1) := dk_42 (dk_at dksX0_told_5 1 rfl rfl)
theorem dX0_told_141 : decode cX0_told 141 = .ok (.getfield 116, 3) := dk_180 0 116 (dk_at dksX0_told_5 2 rfl rfl)
theorem dX0_told_144 : decode cX0_told 144 = .ok (.invokevirtual 119, 3) := dk_182 0 119 (dk_at dksX0_told_5 5 rfl rfl)
theorem dX0_told_147 : decode cX0_told 147 = .ok (.ireturn, 1) := dk_172 (dk_at dksX0_told_5 8 rfl rfl)
theorem dX0_told_148 : decode cX0_told 148 = .ok (.aload_n 0, 1) := dk_42 (dk_at dksX0_told_5 9 rfl rfl)
theorem dX0_told_149 : decode cX0_told 149 = .ok (.iload_n 1, 1) := dk_27 (dk_at dksX0_told_5 10 rfl rfl)
theorem dX0_told_150 : decode cX0_told 150 = .ok (.iload_n 2, 1) := dk_28 (dk_at dksX0_told_5 11 rfl rfl)
theorem dX0_told_151 : decode cX0_told 151 = .ok (.invokevirtual 75, 3) := dk_182 0 75 (dk_at dksX0_told_5 12 rfl rfl)
theorem dX0_told_154 : decode cX0_told 154 = .ok (.ireturn, 1) := dk_172 (dk_at dksX0_told_5 15 rfl rfl)
abbrev cX0_wouldCome : ByteArray := prog_1_method_40_code
def yX0_wouldCome : MethodName := ⟨RX0, "wouldCome", "(I)Z"⟩
def dkwX0_wouldCome_2 : List UInt8 := [4, 167, 0, 4, 3, 172]
abbrev dktX0_wouldCome_2 : List UInt8 := dkwX0_wouldCome_2 ++ []
def dkwX0_wouldCome_1 : List UInt8 := [182, 0, 110, 163, 0, 25, 42, 4, 27, 182, 1, 94, 153, 0, 16, 42, 5, 27, 182, 1, 94, 153, 0, 7]
abbrev dktX0_wouldCome_1 : List UInt8 := dkwX0_wouldCome_1 ++ dktX0_wouldCome_2
def dkwX0_wouldCome_0 : List UInt8 := [42, 180, 0, 56, 27, 46, 3, 184, 1, 92, 42, 180, 0, 48, 27, 50, 42, 180, 0, 98, 4, 46]
abbrev dktX0_wouldCome_0 : List UInt8 := dkwX0_wouldCome_0 ++ dktX0_wouldCome_1
theorem dksX0_wouldCome_0 : cX0_wouldCome.data.toList.drop 0 = dktX0_wouldCome_0 := by decide +kernel
theorem dksX0_wouldCome_1 : cX0_wouldCome.data.toList.drop 22 = dktX0_wouldCome_1 := dk_seg dksX0_wouldCome_0 22 rfl rfl
theorem dksX0_wouldCome_2 : cX0_wouldCome.data.toList.drop 46 = dktX0_wouldCome_2 := dk_seg dksX0_wouldCome_1 24 rfl rfl
theorem dX0_wouldCome_0 : decode cX0_wouldCome 0 = .ok (.aload_n 0, 1) := dk_42 (dk_at dksX0_wouldCome_0 0 rfl rfl)
theorem dX0_wouldCome_1 : decode cX0_wouldCome 1 = .ok (.getfield 56, 3) := dk_180 0 56 (dk_at dksX0_wouldCome_0 1 rfl rfl)
theorem dX0_wouldCome_4 : decode cX0_wouldCome 4 = .ok (.iload_n 1, 1) := dk_27 (dk_at dksX0_wouldCome_0 4 rfl rfl)
theorem dX0_wouldCome_5 : decode cX0_wouldCome 5 = .ok (.iaload, 1) := dk_46 (dk_at dksX0_wouldCome_0 5 rfl rfl)
theorem dX0_wouldCome_6 : decode cX0_wouldCome 6 = .ok (.iconst 0, 1) := dk_3 (dk_at dksX0_wouldCome_0 6 rfl rfl)
theorem dX0_wouldCome_7 : decode cX0_wouldCome 7 = .ok (.invokestatic 348, 3) := dk_184 1 92 (dk_at dksX0_wouldCome_0 7 rfl rfl)
theorem dX0_wouldCome_10 : decode cX0_wouldCome 10 = .ok (.aload_n 0, 1) := dk_42 (dk_at dksX0_wouldCome_0 10 rfl rfl)
theorem dX0_wouldCome_11 : decode cX0_wouldCome 11 = .ok (.getfield 48, 3) := dk_180 0 48 (dk_at dksX0_wouldCome_0 11 rfl rfl)
theorem dX0_wouldCome_14 : decode cX0_wouldCome 14 = .ok (.iload_n 1, 1) := dk_27 (dk_at dksX0_wouldCome_0 14 rfl rfl)
theorem dX0_wouldCome_15 : decode cX0_wouldCome 15 = .ok (.aaload, 1) := dk_50 (dk_at dksX0_wouldCome_0 15 rfl rfl)
theorem dX0_wouldCome_16 : decode cX0_wouldCome 16 = .ok (.aload_n 0, 1) := dk_42 (dk_at dksX0_wouldCome_0 16 rfl rfl)
theorem dX0_wouldCome_17 : decode cX0_wouldCome 17 = .ok (.getfield 98, 3) := dk_180 0 98 (dk_at dksX0_wouldCome_0 17 rfl rfl)
theorem dX0_wouldCome_20 : decode cX0_wouldCome 20 = .ok (.iconst 1, 1) := dk_4 (dk_at dksX0_wouldCome_0 20 rfl rfl)
theorem dX0_wouldCome_21 : decode cX0_wouldCome 21 = .ok (.iaload, 1) := dk_46 (dk_at dksX0_wouldCome_0 21 rfl rfl)
theorem dX0_wouldCome_22 : decode cX0_wouldCome 22 = .ok (.invokevirtual 110, 3) := dk_182 0 110 (dk_at dksX0_wouldCome_1 0 rfl rfl)
theorem dX0_wouldCome_25 : decode cX0_wouldCome 25 = .ok (.if_icmp .gt 25, 3) := dk_163 0 25 (dk_at dksX0_wouldCome_1 3 rfl rfl)
theorem dX0_wouldCome_28 : decode cX0_wouldCome 28 = .ok (.aload_n 0, 1) := dk_42 (dk_at dksX0_wouldCome_1 6 rfl rfl)
theorem dX0_wouldCome_29 : decode cX0_wouldCome 29 = .ok (.iconst 1, 1) := dk_4 (dk_at dksX0_wouldCome_1 7 rfl rfl)
theorem dX0_wouldCome_30 : decode cX0_wouldCome 30 = .ok (.iload_n 1, 1) := dk_27 (dk_at dksX0_wouldCome_1 8 rfl rfl)
theorem dX0_wouldCome_31 : decode cX0_wouldCome 31 = .ok (.invokevirtual 350, 3) := dk_182 1 94 (dk_at dksX0_wouldCome_1 9 rfl rfl)
theorem dX0_wouldCome_34 : decode cX0_wouldCome 34 = .ok (.ifCond .eq 16, 3) := dk_153 0 16 (dk_at dksX0_wouldCome_1 12 rfl rfl)
theorem dX0_wouldCome_37 : decode cX0_wouldCome 37 = .ok (.aload_n 0, 1) := dk_42 (dk_at dksX0_wouldCome_1 15 rfl rfl)
theorem dX0_wouldCome_38 : decode cX0_wouldCome 38 = .ok (.iconst 2, 1) := dk_5 (dk_at dksX0_wouldCome_1 16 rfl rfl)
theorem dX0_wouldCome_39 : decode cX0_wouldCome 39 = .ok (.iload_n 1, 1) := dk_27 (dk_at dksX0_wouldCome_1 17 rfl rfl)
theorem dX0_wouldCome_40 : decode cX0_wouldCome 40 = .ok (.invokevirtual 350, 3) := dk_182 1 94 (dk_at dksX0_wouldCome_1 18 rfl rfl)
theorem dX0_wouldCome_43 : decode cX0_wouldCome 43 = .ok (.ifCond .eq 7, 3) := dk_153 0 7 (dk_at dksX0_wouldCome_1 21 rfl rfl)
theorem dX0_wouldCome_46 : decode cX0_wouldCome 46 = .ok (.iconst 1, 1) := dk_4 (dk_at dksX0_wouldCome_2 0 rfl rfl)
theorem dX0_wouldCome_47 : decode cX0_wouldCome 47 = .ok (.goto 4, 3) := dk_167 0 4 (dk_at dksX0_wouldCome_2 1 rfl rfl)
theorem dX0_wouldCome_50 : decode cX0_wouldCome 50 = .ok (.iconst 0, 1) := dk_3 (dk_at dksX0_wouldCome_2 4 rfl rfl)
theorem dX0_wouldCome_51 : decode cX0_wouldCome 51 = .ok (.ireturn, 1) := dk_172 (dk_at dksX0_wouldCome_2 5 rfl rfl)
abbrev cX0_far : ByteArray := prog_1_method_3_code
def yX0_far : MethodName := ⟨RX0, "far", "(II)I"⟩
def dkwX0_far_1 : List UInt8 := [96, 172]
abbrev dktX0_far_1 : List UInt8 := dkwX0_far_1 ++ []
def dkwX0_far_0 : List UInt8 := [26, 16, 8, 108, 27, 16, 8, 108, 100, 184, 0, 9, 26, 16, 8, 112, 27, 16, 8, 112, 100, 184, 0, 9]
abbrev dktX0_far_0 : List UInt8 := dkwX0_far_0 ++ dktX0_far_1
theorem dksX0_far_0 : cX0_far.data.toList.drop 0 = dktX0_far_0 := by decide +kernel
theorem dksX0_far_1 : cX0_far.data.toList.drop 24 = dktX0_far_1 := dk_seg dksX0_far_0 24 rfl rfl
theorem dX0_far_0 : decode cX0_far 0 = .ok (.iload_n 0, 1) := dk_26 (dk_at dksX0_far_0 0 rfl rfl)
theorem dX0_far_1 : decode cX0_far 1 = .ok (.bipush 8, 2) := dk_16 8 (dk_at dksX0_far_0 1 rfl rfl)
theorem dX0_far_3 : decode cX0_far 3 = .ok (.idiv, 1) := dk_108 (dk_at dksX0_far_0 3 rfl rfl)
theorem dX0_far_4 : decode cX0_far 4 = .ok (.iload_n 1, 1) := dk_27 (dk_at dksX0_far_0 4 rfl rfl)
theorem dX0_far_5 : decode cX0_far 5 = .ok (.bipush 8, 2) := dk_16 8 (dk_at dksX0_far_0 5 rfl rfl)
theorem dX0_far_7 : decode cX0_far 7 = .ok (.idiv, 1) := dk_108 (dk_at dksX0_far_0 7 rfl rfl)
theorem dX0_far_8 : decode cX0_far 8 = .ok (.isub, 1) := dk_100 (dk_at dksX0_far_0 8 rfl rfl)
theorem dX0_far_9 : decode cX0_far 9 = .ok (.invokestatic 9, 3) := dk_184 0 9 (dk_at dksX0_far_0 9 rfl rfl)
theorem dX0_far_12 : decode cX0_far 12 = .ok (.iload_n 0, 1) := dk_26 (dk_at dksX0_far_0 12 rfl rfl)
theorem dX0_far_13 : decode cX0_far 13 = .ok (.bipush 8, 2) := dk_16 8 (dk_at dksX0_far_0 13 rfl rfl)
theorem dX0_far_15 : decode cX0_far 15 = .ok (.irem, 1) := dk_112 (dk_at dksX0_far_0 15 rfl rfl)
theorem dX0_far_16 : decode cX0_far 16 = .ok (.iload_n 1, 1) := dk_27 (dk_at dksX0_far_0 16 rfl rfl)
theorem dX0_far_17 : decode cX0_far 17 = .ok (.bipush 8, 2) := dk_16 8 (dk_at dksX0_far_0 17 rfl rfl)
theorem dX0_far_19 : decode cX0_far 19 = .ok (.irem, 1) := dk_112 (dk_at dksX0_far_0 19 rfl rfl)
theorem dX0_far_20 : decode cX0_far 20 = .ok (.isub, 1) := dk_100 (dk_at dksX0_far_0 20 rfl rfl)
theorem dX0_far_21 : decode cX0_far 21 = .ok (.invokestatic 9, 3) := dk_184 0 9 (dk_at dksX0_far_0 21 rfl rfl)
theorem dX0_far_24 : decode cX0_far 24 = .ok (.iadd, 1) := dk_96 (dk_at dksX0_far_1 0 rfl rfl)
theorem dX0_far_25 : decode cX0_far 25 = .ok (.ireturn, 1) := dk_172 (dk_at dksX0_far_1 1 rfl rfl)
abbrev cX0_asks : ByteArray := prog_1_method_39_code
def yX0_asks : MethodName := ⟨RX0, "asks", "(II)I"⟩
def dkwX0_asks_1 : List UInt8 := [3, 16, 99, 29, 184, 1, 86, 184, 1, 89, 167, 0, 4, 29, 172]
abbrev dktX0_asks_1 : List UInt8 := dkwX0_asks_1 ++ []
def dkwX0_asks_0 : List UInt8 := [42, 28, 181, 1, 80, 42, 180, 1, 0, 42, 180, 1, 77, 50, 27, 50, 182, 1, 83, 62, 27, 154, 0, 16]
abbrev dktX0_asks_0 : List UInt8 := dkwX0_asks_0 ++ dktX0_asks_1
theorem dksX0_asks_0 : cX0_asks.data.toList.drop 0 = dktX0_asks_0 := by decide +kernel
theorem dksX0_asks_1 : cX0_asks.data.toList.drop 24 = dktX0_asks_1 := dk_seg dksX0_asks_0 24 rfl rfl
theorem dX0_asks_0 : decode cX0_asks 0 = .ok (.aload_n 0, 1) := dk_42 (dk_at dksX0_asks_0 0 rfl rfl)
theorem dX0_asks_1 : decode cX0_asks 1 = .ok (.iload_n 2, 1) := dk_28 (dk_at dksX0_asks_0 1 rfl rfl)
theorem dX0_asks_2 : decode cX0_asks 2 = .ok (.putfield 336, 3) := dk_181 1 80 (dk_at dksX0_asks_0 2 rfl rfl)
theorem dX0_asks_5 : decode cX0_asks 5 = .ok (.aload_n 0, 1) := dk_42 (dk_at dksX0_asks_0 5 rfl rfl)
theorem dX0_asks_6 : decode cX0_asks 6 = .ok (.getfield 256, 3) := dk_180 1 0 (dk_at dksX0_asks_0 6 rfl rfl)
theorem dX0_asks_9 : decode cX0_asks 9 = .ok (.aload_n 0, 1) := dk_42 (dk_at dksX0_asks_0 9 rfl rfl)
theorem dX0_asks_10 : decode cX0_asks 10 = .ok (.getfield 333, 3) := dk_180 1 77 (dk_at dksX0_asks_0 10 rfl rfl)
theorem dX0_asks_13 : decode cX0_asks 13 = .ok (.aaload, 1) := dk_50 (dk_at dksX0_asks_0 13 rfl rfl)
theorem dX0_asks_14 : decode cX0_asks 14 = .ok (.iload_n 1, 1) := dk_27 (dk_at dksX0_asks_0 14 rfl rfl)
theorem dX0_asks_15 : decode cX0_asks 15 = .ok (.aaload, 1) := dk_50 (dk_at dksX0_asks_0 15 rfl rfl)
theorem dX0_asks_16 : decode cX0_asks 16 = .ok (.invokevirtual 339, 3) := dk_182 1 83 (dk_at dksX0_asks_0 16 rfl rfl)
theorem dX0_asks_19 : decode cX0_asks 19 = .ok (.istore_n 3, 1) := dk_62 (dk_at dksX0_asks_0 19 rfl rfl)
theorem dX0_asks_20 : decode cX0_asks 20 = .ok (.iload_n 1, 1) := dk_27 (dk_at dksX0_asks_0 20 rfl rfl)
theorem dX0_asks_21 : decode cX0_asks 21 = .ok (.ifCond .ne 16, 3) := dk_154 0 16 (dk_at dksX0_asks_0 21 rfl rfl)
theorem dX0_asks_24 : decode cX0_asks 24 = .ok (.iconst 0, 1) := dk_3 (dk_at dksX0_asks_1 0 rfl rfl)
theorem dX0_asks_25 : decode cX0_asks 25 = .ok (.bipush 99, 2) := dk_16 99 (dk_at dksX0_asks_1 1 rfl rfl)
theorem dX0_asks_27 : decode cX0_asks 27 = .ok (.iload_n 3, 1) := dk_29 (dk_at dksX0_asks_1 3 rfl rfl)
theorem dX0_asks_28 : decode cX0_asks 28 = .ok (.invokestatic 342, 3) := dk_184 1 86 (dk_at dksX0_asks_1 4 rfl rfl)
theorem dX0_asks_31 : decode cX0_asks 31 = .ok (.invokestatic 345, 3) := dk_184 1 89 (dk_at dksX0_asks_1 7 rfl rfl)
theorem dX0_asks_34 : decode cX0_asks 34 = .ok (.goto 4, 3) := dk_167 0 4 (dk_at dksX0_asks_1 10 rfl rfl)
theorem dX0_asks_37 : decode cX0_asks 37 = .ok (.iload_n 3, 1) := dk_29 (dk_at dksX0_asks_1 13 rfl rfl)
theorem dX0_asks_38 : decode cX0_asks 38 = .ok (.ireturn, 1) := dk_172 (dk_at dksX0_asks_1 14 rfl rfl)
abbrev cX0_due : ByteArray := prog_1_method_37_code
def yX0_due : MethodName := ⟨RX0, "due", "(I)I"⟩
def dkwX0_due_0 : List UInt8 := [42, 180, 0, 60, 27, 46, 42, 180, 0, 63, 27, 46, 96, 172]
abbrev dktX0_due_0 : List UInt8 := dkwX0_due_0 ++ []
theorem dksX0_due_0 : cX0_due.data.toList.drop 0 = dktX0_due_0 := by decide +kernel
theorem dX0_due_0 : decode cX0_due 0 = .ok (.aload_n 0, 1) := dk_42 (dk_at dksX0_due_0 0 rfl rfl)
theorem dX0_due_1 : decode cX0_due 1 = .ok (.getfield 60, 3) := dk_180 0 60 (dk_at dksX0_due_0 1 rfl rfl)
theorem dX0_due_4 : decode cX0_due 4 = .ok (.iload_n 1, 1) := dk_27 (dk_at dksX0_due_0 4 rfl rfl)
theorem dX0_due_5 : decode cX0_due 5 = .ok (.iaload, 1) := dk_46 (dk_at dksX0_due_0 5 rfl rfl)
theorem dX0_due_6 : decode cX0_due 6 = .ok (.aload_n 0, 1) := dk_42 (dk_at dksX0_due_0 6 rfl rfl)
theorem dX0_due_7 : decode cX0_due 7 = .ok (.getfield 63, 3) := dk_180 0 63 (dk_at dksX0_due_0 7 rfl rfl)
theorem dX0_due_10 : decode cX0_due 10 = .ok (.iload_n 1, 1) := dk_27 (dk_at dksX0_due_0 10 rfl rfl)
theorem dX0_due_11 : decode cX0_due 11 = .ok (.iaload, 1) := dk_46 (dk_at dksX0_due_0 11 rfl rfl)
theorem dX0_due_12 : decode cX0_due 12 = .ok (.iadd, 1) := dk_96 (dk_at dksX0_due_0 12 rfl rfl)
theorem dX0_due_13 : decode cX0_due 13 = .ok (.ireturn, 1) := dk_172 (dk_at dksX0_due_0 13 rfl rfl)
abbrev cX0_isHidden : ByteArray := prog_1_method_38_code
def yX0_isHidden : MethodName := ⟨RX0, "isHidden", "(I)Z"⟩
def dkwX0_isHidden_1 : List UInt8 := [3, 46, 16, 8, 112, 164, 0, 7, 4, 167, 0, 4, 3, 172]
abbrev dktX0_isHidden_1 : List UInt8 := dkwX0_isHidden_1 ++ []
def dkwX0_isHidden_0 : List UInt8 := [27, 16, 8, 108, 42, 180, 0, 98, 3, 46, 16, 8, 108, 160, 0, 23, 27, 16, 8, 112, 42, 180, 0, 98]
abbrev dktX0_isHidden_0 : List UInt8 := dkwX0_isHidden_0 ++ dktX0_isHidden_1
theorem dksX0_isHidden_0 : cX0_isHidden.data.toList.drop 0 = dktX0_isHidden_0 := by decide +kernel
theorem dksX0_isHidden_1 : cX0_isHidden.data.toList.drop 24 = dktX0_isHidden_1 := dk_seg dksX0_isHidden_0 24 rfl rfl
theorem dX0_isHidden_0 : decode cX0_isHidden 0 = .ok (.iload_n 1, 1) := dk_27 (dk_at dksX0_isHidden_0 0 rfl rfl)
theorem dX0_isHidden_1 : decode cX0_isHidden 1 = .ok (.bipush 8, 2) := dk_16 8 (dk_at dksX0_isHidden_0 1 rfl rfl)
theorem dX0_isHidden_3 : decode cX0_isHidden 3 = .ok (.idiv, 1) := dk_108 (dk_at dksX0_isHidden_0 3 rfl rfl)
theorem dX0_isHidden_4 : decode cX0_isHidden 4 = .ok (.aload_n 0, 1) := dk_42 (dk_at dksX0_isHidden_0 4 rfl rfl)
theorem dX0_isHidden_5 : decode cX0_isHidden 5 = .ok (.getfield 98, 3) := dk_180 0 98 (dk_at dksX0_isHidden_0 5 rfl rfl)
theorem dX0_isHidden_8 : decode cX0_isHidden 8 = .ok (.iconst 0, 1) := dk_3 (dk_at dksX0_isHidden_0 8 rfl rfl)
theorem dX0_isHidden_9 : decode cX0_isHidden 9 = .ok (.iaload, 1) := dk_46 (dk_at dksX0_isHidden_0 9 rfl rfl)
theorem dX0_isHidden_10 : decode cX0_isHidden 10 = .ok (.bipush 8, 2) := dk_16 8 (dk_at dksX0_isHidden_0 10 rfl rfl)
theorem dX0_isHidden_12 : decode cX0_isHidden 12 = .ok (.idiv, 1) := dk_108 (dk_at dksX0_isHidden_0 12 rfl rfl)
theorem dX0_isHidden_13 : decode cX0_isHidden 13 = .ok (.if_icmp .ne 23, 3) := dk_160 0 23 (dk_at dksX0_isHidden_0 13 rfl rfl)
theorem dX0_isHidden_16 : decode cX0_isHidden 16 = .ok (.iload_n 1, 1) := dk_27 (dk_at dksX0_isHidden_0 16 rfl rfl)
theorem dX0_isHidden_17 : decode cX0_isHidden 17 = .ok (.bipush 8, 2) := dk_16 8 (dk_at dksX0_isHidden_0 17 rfl rfl)
theorem dX0_isHidden_19 : decode cX0_isHidden 19 = .ok (.irem, 1) := dk_112 (dk_at dksX0_isHidden_0 19 rfl rfl)
theorem dX0_isHidden_20 : decode cX0_isHidden 20 = .ok (.aload_n 0, 1) := dk_42 (dk_at dksX0_isHidden_0 20 rfl rfl)
theorem dX0_isHidden_21 : decode cX0_isHidden 21 = .ok (.getfield 98, 3) := dk_180 0 98 (dk_at dksX0_isHidden_0 21 rfl rfl)
theorem dX0_isHidden_24 : decode cX0_isHidden 24 = .ok (.iconst 0, 1) := dk_3 (dk_at dksX0_isHidden_1 0 rfl rfl)
theorem dX0_isHidden_25 : decode cX0_isHidden 25 = .ok (.iaload, 1) := dk_46 (dk_at dksX0_isHidden_1 1 rfl rfl)
theorem dX0_isHidden_26 : decode cX0_isHidden 26 = .ok (.bipush 8, 2) := dk_16 8 (dk_at dksX0_isHidden_1 2 rfl rfl)
theorem dX0_isHidden_28 : decode cX0_isHidden 28 = .ok (.irem, 1) := dk_112 (dk_at dksX0_isHidden_1 4 rfl rfl)
theorem dX0_isHidden_29 : decode cX0_isHidden 29 = .ok (.if_icmp .le 7, 3) := dk_164 0 7 (dk_at dksX0_isHidden_1 5 rfl rfl)
theorem dX0_isHidden_32 : decode cX0_isHidden 32 = .ok (.iconst 1, 1) := dk_4 (dk_at dksX0_isHidden_1 8 rfl rfl)
theorem dX0_isHidden_33 : decode cX0_isHidden 33 = .ok (.goto 4, 3) := dk_167 0 4 (dk_at dksX0_isHidden_1 9 rfl rfl)
theorem dX0_isHidden_36 : decode cX0_isHidden 36 = .ok (.iconst 0, 1) := dk_3 (dk_at dksX0_isHidden_1 12 rfl rfl)
theorem dX0_isHidden_37 : decode cX0_isHidden 37 = .ok (.ireturn, 1) := dk_172 (dk_at dksX0_isHidden_1 13 rfl rfl)
abbrev cX0_owesAt : ByteArray := prog_1_method_42_code
def yX0_owesAt : MethodName := ⟨RX0, "owesAt", "(II)I"⟩
def dkwX0_owesAt_2 : List UInt8 := [42, 29, 181, 0, 116, 25, 5, 191]
abbrev dktX0_owesAt_2 : List UInt8 := dkwX0_owesAt_2 ++ []
def dkwX0_owesAt_1 : List UInt8 := [184, 1, 89, 42, 3, 27, 182, 1, 94, 182, 1, 100, 54, 4, 42, 29, 181, 0, 116, 21, 4, 172, 58, 5]
abbrev dktX0_owesAt_1 : List UInt8 := dkwX0_owesAt_1 ++ dktX0_owesAt_2
def dkwX0_owesAt_0 : List UInt8 := [42, 180, 0, 116, 62, 42, 28, 181, 0, 116, 42, 180, 0, 48, 27, 50, 3, 28, 42, 27, 182, 1, 97, 100]
abbrev dktX0_owesAt_0 : List UInt8 := dkwX0_owesAt_0 ++ dktX0_owesAt_1
theorem dksX0_owesAt_0 : cX0_owesAt.data.toList.drop 0 = dktX0_owesAt_0 := by decide +kernel
theorem dksX0_owesAt_1 : cX0_owesAt.data.toList.drop 24 = dktX0_owesAt_1 := dk_seg dksX0_owesAt_0 24 rfl rfl
theorem dksX0_owesAt_2 : cX0_owesAt.data.toList.drop 48 = dktX0_owesAt_2 := dk_seg dksX0_owesAt_1 24 rfl rfl
theorem dX0_owesAt_0 : decode cX0_owesAt 0 = .ok (.aload_n 0, 1) := dk_42 (dk_at dksX0_owesAt_0 0 rfl rfl)
theorem dX0_owesAt_1 : decode cX0_owesAt 1 = .ok (.getfield 116, 3) := dk_180 0 116 (dk_at dksX0_owesAt_0 1 rfl rfl)
theorem dX0_owesAt_4 : decode cX0_owesAt 4 = .ok (.istore_n 3, 1) := dk_62 (dk_at dksX0_owesAt_0 4 rfl rfl)
theorem dX0_owesAt_5 : decode cX0_owesAt 5 = .ok (.aload_n 0, 1) := dk_42 (dk_at dksX0_owesAt_0 5 rfl rfl)
theorem dX0_owesAt_6 : decode cX0_owesAt 6 = .ok (.iload_n 2, 1) := dk_28 (dk_at dksX0_owesAt_0 6 rfl rfl)
theorem dX0_owesAt_7 : decode cX0_owesAt 7 = .ok (.putfield 116, 3) := dk_181 0 116 (dk_at dksX0_owesAt_0 7 rfl rfl)
theorem dX0_owesAt_10 : decode cX0_owesAt 10 = .ok (.aload_n 0, 1) := dk_42 (dk_at dksX0_owesAt_0 10 rfl rfl)
theorem dX0_owesAt_11 : decode cX0_owesAt 11 = .ok (.getfield 48, 3) := dk_180 0 48 (dk_at dksX0_owesAt_0 11 rfl rfl)
theorem dX0_owesAt_14 : decode cX0_owesAt 14 = .ok (.iload_n 1, 1) := dk_27 (dk_at dksX0_owesAt_0 14 rfl rfl)
theorem dX0_owesAt_15 : decode cX0_owesAt 15 = .ok (.aaload, 1) := dk_50 (dk_at dksX0_owesAt_0 15 rfl rfl)
theorem dX0_owesAt_16 : decode cX0_owesAt 16 = .ok (.iconst 0, 1) := dk_3 (dk_at dksX0_owesAt_0 16 rfl rfl)
theorem dX0_owesAt_17 : decode cX0_owesAt 17 = .ok (.iload_n 2, 1) := dk_28 (dk_at dksX0_owesAt_0 17 rfl rfl)
theorem dX0_owesAt_18 : decode cX0_owesAt 18 = .ok (.aload_n 0, 1) := dk_42 (dk_at dksX0_owesAt_0 18 rfl rfl)
theorem dX0_owesAt_19 : decode cX0_owesAt 19 = .ok (.iload_n 1, 1) := dk_27 (dk_at dksX0_owesAt_0 19 rfl rfl)
theorem dX0_owesAt_20 : decode cX0_owesAt 20 = .ok (.invokevirtual 353, 3) := dk_182 1 97 (dk_at dksX0_owesAt_0 20 rfl rfl)
theorem dX0_owesAt_23 : decode cX0_owesAt 23 = .ok (.isub, 1) := dk_100 (dk_at dksX0_owesAt_0 23 rfl rfl)
theorem dX0_owesAt_24 : decode cX0_owesAt 24 = .ok (.invokestatic 345, 3) := dk_184 1 89 (dk_at dksX0_owesAt_1 0 rfl rfl)
theorem dX0_owesAt_27 : decode cX0_owesAt 27 = .ok (.aload_n 0, 1) := dk_42 (dk_at dksX0_owesAt_1 3 rfl rfl)
theorem dX0_owesAt_28 : decode cX0_owesAt 28 = .ok (.iconst 0, 1) := dk_3 (dk_at dksX0_owesAt_1 4 rfl rfl)
theorem dX0_owesAt_29 : decode cX0_owesAt 29 = .ok (.iload_n 1, 1) := dk_27 (dk_at dksX0_owesAt_1 5 rfl rfl)
theorem dX0_owesAt_30 : decode cX0_owesAt 30 = .ok (.invokevirtual 350, 3) := dk_182 1 94 (dk_at dksX0_owesAt_1 6 rfl rfl)
theorem dX0_owesAt_33 : decode cX0_owesAt 33 = .ok (.invokevirtual 356, 3) := dk_182 1 100 (dk_at dksX0_owesAt_1 9 rfl rfl)
theorem dX0_owesAt_36 : decode cX0_owesAt 36 = .ok (.istore 4, 2) := dk_54 4 (dk_at dksX0_owesAt_1 12 rfl rfl)
theorem dX0_owesAt_38 : decode cX0_owesAt 38 = .ok (.aload_n 0, 1) := dk_42 (dk_at dksX0_owesAt_1 14 rfl rfl)
theorem dX0_owesAt_39 : decode cX0_owesAt 39 = .ok (.iload_n 3, 1) := dk_29 (dk_at dksX0_owesAt_1 15 rfl rfl)
theorem dX0_owesAt_40 : decode cX0_owesAt 40 = .ok (.putfield 116, 3) := dk_181 0 116 (dk_at dksX0_owesAt_1 16 rfl rfl)
theorem dX0_owesAt_43 : decode cX0_owesAt 43 = .ok (.iload 4, 2) := dk_21 4 (dk_at dksX0_owesAt_1 19 rfl rfl)
theorem dX0_owesAt_45 : decode cX0_owesAt 45 = .ok (.ireturn, 1) := dk_172 (dk_at dksX0_owesAt_1 21 rfl rfl)
theorem dX0_owesAt_46 : decode cX0_owesAt 46 = .ok (.astore 5, 2) := dk_58 5 (dk_at dksX0_owesAt_1 22 rfl rfl)
theorem dX0_owesAt_48 : decode cX0_owesAt 48 = .ok (.aload_n 0, 1) := dk_42 (dk_at dksX0_owesAt_2 0 rfl rfl)
theorem dX0_owesAt_49 : decode cX0_owesAt 49 = .ok (.iload_n 3, 1) := dk_29 (dk_at dksX0_owesAt_2 1 rfl rfl)
theorem dX0_owesAt_50 : decode cX0_owesAt 50 = .ok (.putfield 116, 3) := dk_181 0 116 (dk_at dksX0_owesAt_2 2 rfl rfl)
theorem dX0_owesAt_53 : decode cX0_owesAt 53 = .ok (.aload 5, 2) := dk_25 5 (dk_at dksX0_owesAt_2 5 rfl rfl)
theorem dX0_owesAt_55 : decode cX0_owesAt 55 = .ok (.athrow, 1) := dk_191 (dk_at dksX0_owesAt_2 7 rfl rfl)
abbrev cX0_feed : ByteArray := prog_1_method_32_code
def yX0_feed : MethodName := ⟨RX0, "feed", "(I)I"⟩
def dkwX0_feed_2 : List UInt8 := [181, 0, 249, 42, 180, 0, 249, 172]
abbrev dktX0_feed_2 : List UInt8 := dkwX0_feed_2 ++ []
def dkwX0_feed_1 : List UInt8 := [160, 0, 6, 16, 252, 172, 42, 180, 0, 125, 42, 180, 0, 249, 27, 145, 84, 42, 89, 180, 0, 249, 4, 96]
abbrev dktX0_feed_1 : List UInt8 := dkwX0_feed_1 ++ dktX0_feed_2
def dkwX0_feed_0 : List UInt8 := [27, 133, 9, 20, 1, 10, 184, 0, 5, 154, 0, 6, 16, 254, 172, 42, 180, 0, 249, 17, 0, 160]
abbrev dktX0_feed_0 : List UInt8 := dkwX0_feed_0 ++ dktX0_feed_1
theorem dksX0_feed_0 : cX0_feed.data.toList.drop 0 = dktX0_feed_0 := by decide +kernel
theorem dksX0_feed_1 : cX0_feed.data.toList.drop 22 = dktX0_feed_1 := dk_seg dksX0_feed_0 22 rfl rfl
theorem dksX0_feed_2 : cX0_feed.data.toList.drop 46 = dktX0_feed_2 := dk_seg dksX0_feed_1 24 rfl rfl
theorem dX0_feed_0 : decode cX0_feed 0 = .ok (.iload_n 1, 1) := dk_27 (dk_at dksX0_feed_0 0 rfl rfl)
theorem dX0_feed_1 : decode cX0_feed 1 = .ok (.i2l, 1) := dk_133 (dk_at dksX0_feed_0 1 rfl rfl)
theorem dX0_feed_2 : decode cX0_feed 2 = .ok (.lconst 0, 1) := dk_9 (dk_at dksX0_feed_0 2 rfl rfl)
theorem dX0_feed_3 : decode cX0_feed 3 = .ok (.ldc2_w 266, 3) := dk_20 1 10 (dk_at dksX0_feed_0 3 rfl rfl)
theorem dX0_feed_6 : decode cX0_feed 6 = .ok (.invokestatic 5, 3) := dk_184 0 5 (dk_at dksX0_feed_0 6 rfl rfl)
theorem dX0_feed_9 : decode cX0_feed 9 = .ok (.ifCond .ne 6, 3) := dk_154 0 6 (dk_at dksX0_feed_0 9 rfl rfl)
theorem dX0_feed_12 : decode cX0_feed 12 = .ok (.bipush (-2), 2) := dk_16 254 (dk_at dksX0_feed_0 12 rfl rfl)
theorem dX0_feed_14 : decode cX0_feed 14 = .ok (.ireturn, 1) := dk_172 (dk_at dksX0_feed_0 14 rfl rfl)
theorem dX0_feed_15 : decode cX0_feed 15 = .ok (.aload_n 0, 1) := dk_42 (dk_at dksX0_feed_0 15 rfl rfl)
theorem dX0_feed_16 : decode cX0_feed 16 = .ok (.getfield 249, 3) := dk_180 0 249 (dk_at dksX0_feed_0 16 rfl rfl)
theorem dX0_feed_19 : decode cX0_feed 19 = .ok (.sipush 160, 3) := dk_17 0 160 (dk_at dksX0_feed_0 19 rfl rfl)
theorem dX0_feed_22 : decode cX0_feed 22 = .ok (.if_icmp .ne 6, 3) := dk_160 0 6 (dk_at dksX0_feed_1 0 rfl rfl)
theorem dX0_feed_25 : decode cX0_feed 25 = .ok (.bipush (-4), 2) := dk_16 252 (dk_at dksX0_feed_1 3 rfl rfl)
theorem dX0_feed_27 : decode cX0_feed 27 = .ok (.ireturn, 1) := dk_172 (dk_at dksX0_feed_1 5 rfl rfl)
theorem dX0_feed_28 : decode cX0_feed 28 = .ok (.aload_n 0, 1) := dk_42 (dk_at dksX0_feed_1 6 rfl rfl)
theorem dX0_feed_29 : decode cX0_feed 29 = .ok (.getfield 125, 3) := dk_180 0 125 (dk_at dksX0_feed_1 7 rfl rfl)
theorem dX0_feed_32 : decode cX0_feed 32 = .ok (.aload_n 0, 1) := dk_42 (dk_at dksX0_feed_1 10 rfl rfl)
theorem dX0_feed_33 : decode cX0_feed 33 = .ok (.getfield 249, 3) := dk_180 0 249 (dk_at dksX0_feed_1 11 rfl rfl)
theorem dX0_feed_36 : decode cX0_feed 36 = .ok (.iload_n 1, 1) := dk_27 (dk_at dksX0_feed_1 14 rfl rfl)
theorem dX0_feed_37 : decode cX0_feed 37 = .ok (.i2b, 1) := dk_145 (dk_at dksX0_feed_1 15 rfl rfl)
theorem dX0_feed_38 : decode cX0_feed 38 = .ok (.bastore, 1) := dk_84 (dk_at dksX0_feed_1 16 rfl rfl)
theorem dX0_feed_39 : decode cX0_feed 39 = .ok (.aload_n 0, 1) := dk_42 (dk_at dksX0_feed_1 17 rfl rfl)
theorem dX0_feed_40 : decode cX0_feed 40 = .ok (.dup, 1) := dk_89 (dk_at dksX0_feed_1 18 rfl rfl)
theorem dX0_feed_41 : decode cX0_feed 41 = .ok (.getfield 249, 3) := dk_180 0 249 (dk_at dksX0_feed_1 19 rfl rfl)
theorem dX0_feed_44 : decode cX0_feed 44 = .ok (.iconst 1, 1) := dk_4 (dk_at dksX0_feed_1 22 rfl rfl)
theorem dX0_feed_45 : decode cX0_feed 45 = .ok (.iadd, 1) := dk_96 (dk_at dksX0_feed_1 23 rfl rfl)
theorem dX0_feed_46 : decode cX0_feed 46 = .ok (.putfield 249, 3) := dk_181 0 249 (dk_at dksX0_feed_2 0 rfl rfl)
theorem dX0_feed_49 : decode cX0_feed 49 = .ok (.aload_n 0, 1) := dk_42 (dk_at dksX0_feed_2 3 rfl rfl)
theorem dX0_feed_50 : decode cX0_feed 50 = .ok (.getfield 249, 3) := dk_180 0 249 (dk_at dksX0_feed_2 4 rfl rfl)
theorem dX0_feed_53 : decode cX0_feed 53 = .ok (.ireturn, 1) := dk_172 (dk_at dksX0_feed_2 7 rfl rfl)
abbrev cX0_text : ByteArray := prog_1_method_33_code
def yX0_text : MethodName := ⟨RX0, "text", "()I"⟩
def dkwX0_text_0 : List UInt8 := [42, 180, 1, 4, 16, 6, 160, 0, 8, 16, 252, 167, 0, 7, 42, 182, 1, 7, 172]
abbrev dktX0_text_0 : List UInt8 := dkwX0_text_0 ++ []
theorem dksX0_text_0 : cX0_text.data.toList.drop 0 = dktX0_text_0 := by decide +kernel
theorem dX0_text_0 : decode cX0_text 0 = .ok (.aload_n 0, 1) := dk_42 (dk_at dksX0_text_0 0 rfl rfl)
theorem dX0_text_1 : decode cX0_text 1 = .ok (.getfield 260, 3) := dk_180 1 4 (dk_at dksX0_text_0 1 rfl rfl)
theorem dX0_text_4 : decode cX0_text 4 = .ok (.bipush 6, 2) := dk_16 6 (dk_at dksX0_text_0 4 rfl rfl)
theorem dX0_text_6 : decode cX0_text 6 = .ok (.if_icmp .ne 8, 3) := dk_160 0 8 (dk_at dksX0_text_0 6 rfl rfl)
theorem dX0_text_9 : decode cX0_text 9 = .ok (.bipush (-4), 2) := dk_16 252 (dk_at dksX0_text_0 9 rfl rfl)
theorem dX0_text_11 : decode cX0_text 11 = .ok (.goto 7, 3) := dk_167 0 7 (dk_at dksX0_text_0 11 rfl rfl)
theorem dX0_text_14 : decode cX0_text 14 = .ok (.aload_n 0, 1) := dk_42 (dk_at dksX0_text_0 14 rfl rfl)
theorem dX0_text_15 : decode cX0_text 15 = .ok (.invokevirtual 263, 3) := dk_182 1 7 (dk_at dksX0_text_0 15 rfl rfl)
theorem dX0_text_18 : decode cX0_text 18 = .ok (.ireturn, 1) := dk_172 (dk_at dksX0_text_0 18 rfl rfl)
abbrev cX0_newText : ByteArray := prog_1_method_30_code
def yX0_newText : MethodName := ⟨RX0, "newText", "()I"⟩
def dkwX0_newText_5 : List UInt8 := [100, 172]
abbrev dktX0_newText_5 : List UInt8 := dkwX0_newText_5 ++ []
def dkwX0_newText_4 : List UInt8 := [180, 1, 0, 42, 180, 1, 4, 43, 83, 42, 89, 180, 1, 4, 4, 96, 181, 1, 4, 42, 180, 1, 4, 4]
abbrev dktX0_newText_4 : List UInt8 := dkwX0_newText_4 ++ dktX0_newText_5
def dkwX0_newText_3 : List UInt8 := [180, 0, 146, 153, 0, 8, 42, 180, 0, 172, 191, 167, 0, 12, 77, 16, 156, 42, 180, 0, 143, 100, 172, 42]
abbrev dktX0_newText_3 : List UInt8 := dkwX0_newText_3 ++ dktX0_newText_4
def dkwX0_newText_2 : List UInt8 := [43, 28, 42, 182, 0, 246, 83, 42, 42, 16, 59, 182, 0, 229, 182, 0, 199, 132, 2, 1, 167, 255, 222, 42]
abbrev dktX0_newText_2 : List UInt8 := dkwX0_newText_2 ++ dktX0_newText_3
def dkwX0_newText_1 : List UInt8 := [189, 0, 252, 76, 42, 182, 0, 193, 3, 61, 28, 6, 162, 0, 35, 42, 42, 28, 182, 0, 207, 182, 0, 199]
abbrev dktX0_newText_1 : List UInt8 := dkwX0_newText_1 ++ dktX0_newText_2
def dkwX0_newText_0 : List UInt8 := [42, 42, 180, 0, 249, 181, 0, 122, 42, 3, 181, 0, 249, 42, 3, 181, 0, 137, 42, 3, 181, 0, 196, 6]
abbrev dktX0_newText_0 : List UInt8 := dkwX0_newText_0 ++ dktX0_newText_1
theorem dksX0_newText_0 : cX0_newText.data.toList.drop 0 = dktX0_newText_0 := by decide +kernel
theorem dksX0_newText_1 : cX0_newText.data.toList.drop 24 = dktX0_newText_1 := dk_seg dksX0_newText_0 24 rfl rfl
theorem dksX0_newText_2 : cX0_newText.data.toList.drop 48 = dktX0_newText_2 := dk_seg dksX0_newText_1 24 rfl rfl
theorem dksX0_newText_3 : cX0_newText.data.toList.drop 72 = dktX0_newText_3 := dk_seg dksX0_newText_2 24 rfl rfl
theorem dksX0_newText_4 : cX0_newText.data.toList.drop 96 = dktX0_newText_4 := dk_seg dksX0_newText_3 24 rfl rfl
theorem dksX0_newText_5 : cX0_newText.data.toList.drop 120 = dktX0_newText_5 := dk_seg dksX0_newText_4 24 rfl rfl
theorem dX0_newText_0 : decode cX0_newText 0 = .ok (.aload_n 0, 1) := dk_42 (dk_at dksX0_newText_0 0 rfl rfl)
theorem dX0_newText_1 : decode cX0_newText 1 = .ok (.aload_n 0, 1) := dk_42 (dk_at dksX0_newText_0 1 rfl rfl)
theorem dX0_newText_2 : decode cX0_newText 2 = .ok (.getfield 249, 3) := dk_180 0 249 (dk_at dksX0_newText_0 2 rfl rfl)
theorem dX0_newText_5 : decode cX0_newText 5 = .ok (.putfield 122, 3) := dk_181 0 122 (dk_at dksX0_newText_0 5 rfl rfl)
theorem dX0_newText_8 : decode cX0_newText 8 = .ok (.aload_n 0, 1) := dk_42 (dk_at dksX0_newText_0 8 rfl rfl)
theorem dX0_newText_9 : decode cX0_newText 9 = .ok (.iconst 0, 1) := dk_3 (dk_at dksX0_newText_0 9 rfl rfl)
theorem dX0_newText_10 : decode cX0_newText 10 = .ok (.putfield 249, 3) := dk_181 0 249 (dk_at dksX0_newText_0 10 rfl rfl)
theorem dX0_newText_13 : decode cX0_newText 13 = .ok (.aload_n 0, 1) := dk_42 (dk_at dksX0_newText_0 13 rfl rfl)
theorem dX0_newText_14 : decode cX0_newText 14 = .ok (.iconst 0, 1) := dk_3 (dk_at dksX0_newText_0 14 rfl rfl)
theorem dX0_newText_15 : decode cX0_newText 15 = .ok (.putfield 137, 3) := dk_181 0 137 (dk_at dksX0_newText_0 15 rfl rfl)
theorem dX0_newText_18 : decode cX0_newText 18 = .ok (.aload_n 0, 1) := dk_42 (dk_at dksX0_newText_0 18 rfl rfl)
theorem dX0_newText_19 : decode cX0_newText 19 = .ok (.iconst 0, 1) := dk_3 (dk_at dksX0_newText_0 19 rfl rfl)
theorem dX0_newText_20 : decode cX0_newText 20 = .ok (.putfield 196, 3) := dk_181 0 196 (dk_at dksX0_newText_0 20 rfl rfl)
theorem dX0_newText_23 : decode cX0_newText 23 = .ok (.iconst 3, 1) := dk_6 (dk_at dksX0_newText_0 23 rfl rfl)
theorem dX0_newText_24 : decode cX0_newText 24 = .ok (.anewarray 252, 3) := dk_189 0 252 (dk_at dksX0_newText_1 0 rfl rfl)
theorem dX0_newText_27 : decode cX0_newText 27 = .ok (.astore_n 1, 1) := dk_76 (dk_at dksX0_newText_1 3 rfl rfl)
theorem dX0_newText_28 : decode cX0_newText 28 = .ok (.aload_n 0, 1) := dk_42 (dk_at dksX0_newText_1 4 rfl rfl)
theorem dX0_newText_29 : decode cX0_newText 29 = .ok (.invokevirtual 193, 3) := dk_182 0 193 (dk_at dksX0_newText_1 5 rfl rfl)
theorem dX0_newText_32 : decode cX0_newText 32 = .ok (.iconst 0, 1) := dk_3 (dk_at dksX0_newText_1 8 rfl rfl)
theorem dX0_newText_33 : decode cX0_newText 33 = .ok (.istore_n 2, 1) := dk_61 (dk_at dksX0_newText_1 9 rfl rfl)
theorem dX0_newText_34 : decode cX0_newText 34 = .ok (.iload_n 2, 1) := dk_28 (dk_at dksX0_newText_1 10 rfl rfl)
theorem dX0_newText_35 : decode cX0_newText 35 = .ok (.iconst 3, 1) := dk_6 (dk_at dksX0_newText_1 11 rfl rfl)
theorem dX0_newText_36 : decode cX0_newText 36 = .ok (.if_icmp .ge 35, 3) := dk_162 0 35 (dk_at dksX0_newText_1 12 rfl rfl)
theorem dX0_newText_39 : decode cX0_newText 39 = .ok (.aload_n 0, 1) := dk_42 (dk_at dksX0_newText_1 15 rfl rfl)
theorem dX0_newText_40 : decode cX0_newText 40 = .ok (.aload_n 0, 1) := dk_42 (dk_at dksX0_newText_1 16 rfl rfl)
theorem dX0_newText_41 : decode cX0_newText 41 = .ok (.iload_n 2, 1) := dk_28 (dk_at dksX0_newText_1 17 rfl rfl)
theorem dX0_newText_42 : decode cX0_newText 42 = .ok (.invokevirtual 207, 3) := dk_182 0 207 (dk_at dksX0_newText_1 18 rfl rfl)
theorem dX0_newText_45 : decode cX0_newText 45 = .ok (.invokevirtual 199, 3) := dk_182 0 199 (dk_at dksX0_newText_1 21 rfl rfl)
theorem dX0_newText_48 : decode cX0_newText 48 = .ok (.aload_n 1, 1) := dk_43 (dk_at dksX0_newText_2 0 rfl rfl)
theorem dX0_newText_49 : decode cX0_newText 49 = .ok (.iload_n 2, 1) := dk_28 (dk_at dksX0_newText_2 1 rfl rfl)
theorem dX0_newText_50 : decode cX0_newText 50 = .ok (.aload_n 0, 1) := dk_42 (dk_at dksX0_newText_2 2 rfl rfl)
theorem dX0_newText_51 : decode cX0_newText 51 = .ok (.invokevirtual 246, 3) := dk_182 0 246 (dk_at dksX0_newText_2 3 rfl rfl)
theorem dX0_newText_54 : decode cX0_newText 54 = .ok (.aastore, 1) := dk_83 (dk_at dksX0_newText_2 6 rfl rfl)
theorem dX0_newText_55 : decode cX0_newText 55 = .ok (.aload_n 0, 1) := dk_42 (dk_at dksX0_newText_2 7 rfl rfl)
theorem dX0_newText_56 : decode cX0_newText 56 = .ok (.aload_n 0, 1) := dk_42 (dk_at dksX0_newText_2 8 rfl rfl)
theorem dX0_newText_57 : decode cX0_newText 57 = .ok (.bipush 59, 2) := dk_16 59 (dk_at dksX0_newText_2 9 rfl rfl)
theorem dX0_newText_59 : decode cX0_newText 59 = .ok (.invokevirtual 229, 3) := dk_182 0 229 (dk_at dksX0_newText_2 11 rfl rfl)
theorem dX0_newText_62 : decode cX0_newText 62 = .ok (.invokevirtual 199, 3) := dk_182 0 199 (dk_at dksX0_newText_2 14 rfl rfl)
theorem dX0_newText_65 : decode cX0_newText 65 = .ok (.iinc 2 1, 3) := dk_132 2 1 (dk_at dksX0_newText_2 17 rfl rfl)
theorem dX0_newText_68 : decode cX0_newText 68 = .ok (.goto (-34), 3) := dk_167 255 222 (dk_at dksX0_newText_2 20 rfl rfl)
theorem dX0_newText_71 : decode cX0_newText 71 = .ok (.aload_n 0, 1) := dk_42 (dk_at dksX0_newText_2 23 rfl rfl)
theorem dX0_newText_72 : decode cX0_newText 72 = .ok (.getfield 146, 3) := dk_180 0 146 (dk_at dksX0_newText_3 0 rfl rfl)
theorem dX0_newText_75 : decode cX0_newText 75 = .ok (.ifCond .eq 8, 3) := dk_153 0 8 (dk_at dksX0_newText_3 3 rfl rfl)
theorem dX0_newText_78 : decode cX0_newText 78 = .ok (.aload_n 0, 1) := dk_42 (dk_at dksX0_newText_3 6 rfl rfl)
theorem dX0_newText_79 : decode cX0_newText 79 = .ok (.getfield 172, 3) := dk_180 0 172 (dk_at dksX0_newText_3 7 rfl rfl)
theorem dX0_newText_82 : decode cX0_newText 82 = .ok (.athrow, 1) := dk_191 (dk_at dksX0_newText_3 10 rfl rfl)
theorem dX0_newText_83 : decode cX0_newText 83 = .ok (.goto 12, 3) := dk_167 0 12 (dk_at dksX0_newText_3 11 rfl rfl)
theorem dX0_newText_86 : decode cX0_newText 86 = .ok (.astore_n 2, 1) := dk_77 (dk_at dksX0_newText_3 14 rfl rfl)
theorem dX0_newText_87 : decode cX0_newText 87 = .ok (.bipush (-100), 2) := dk_16 156 (dk_at dksX0_newText_3 15 rfl rfl)
theorem dX0_newText_89 : decode cX0_newText 89 = .ok (.aload_n 0, 1) := dk_42 (dk_at dksX0_newText_3 17 rfl rfl)
theorem dX0_newText_90 : decode cX0_newText 90 = .ok (.getfield 143, 3) := dk_180 0 143 (dk_at dksX0_newText_3 18 rfl rfl)
theorem dX0_newText_93 : decode cX0_newText 93 = .ok (.isub, 1) := dk_100 (dk_at dksX0_newText_3 21 rfl rfl)
theorem dX0_newText_94 : decode cX0_newText 94 = .ok (.ireturn, 1) := dk_172 (dk_at dksX0_newText_3 22 rfl rfl)
theorem dX0_newText_95 : decode cX0_newText 95 = .ok (.aload_n 0, 1) := dk_42 (dk_at dksX0_newText_3 23 rfl rfl)
theorem dX0_newText_96 : decode cX0_newText 96 = .ok (.getfield 256, 3) := dk_180 1 0 (dk_at dksX0_newText_4 0 rfl rfl)
theorem dX0_newText_99 : decode cX0_newText 99 = .ok (.aload_n 0, 1) := dk_42 (dk_at dksX0_newText_4 3 rfl rfl)
theorem dX0_newText_100 : decode cX0_newText 100 = .ok (.getfield 260, 3) := dk_180 1 4 (dk_at dksX0_newText_4 4 rfl rfl)
theorem dX0_newText_103 : decode cX0_newText 103 = .ok (.aload_n 1, 1) := dk_43 (dk_at dksX0_newText_4 7 rfl rfl)
theorem dX0_newText_104 : decode cX0_newText 104 = .ok (.aastore, 1) := dk_83 (dk_at dksX0_newText_4 8 rfl rfl)
theorem dX0_newText_105 : decode cX0_newText 105 = .ok (.aload_n 0, 1) := dk_42 (dk_at dksX0_newText_4 9 rfl rfl)
theorem dX0_newText_106 : decode cX0_newText 106 = .ok (.dup, 1) := dk_89 (dk_at dksX0_newText_4 10 rfl rfl)
theorem dX0_newText_107 : decode cX0_newText 107 = .ok (.getfield 260, 3) := dk_180 1 4 (dk_at dksX0_newText_4 11 rfl rfl)
theorem dX0_newText_110 : decode cX0_newText 110 = .ok (.iconst 1, 1) := dk_4 (dk_at dksX0_newText_4 14 rfl rfl)
theorem dX0_newText_111 : decode cX0_newText 111 = .ok (.iadd, 1) := dk_96 (dk_at dksX0_newText_4 15 rfl rfl)
theorem dX0_newText_112 : decode cX0_newText 112 = .ok (.putfield 260, 3) := dk_181 1 4 (dk_at dksX0_newText_4 16 rfl rfl)
theorem dX0_newText_115 : decode cX0_newText 115 = .ok (.aload_n 0, 1) := dk_42 (dk_at dksX0_newText_4 19 rfl rfl)
theorem dX0_newText_116 : decode cX0_newText 116 = .ok (.getfield 260, 3) := dk_180 1 4 (dk_at dksX0_newText_4 20 rfl rfl)
theorem dX0_newText_119 : decode cX0_newText 119 = .ok (.iconst 1, 1) := dk_4 (dk_at dksX0_newText_4 23 rfl rfl)
theorem dX0_newText_120 : decode cX0_newText 120 = .ok (.isub, 1) := dk_100 (dk_at dksX0_newText_5 0 rfl rfl)
theorem dX0_newText_121 : decode cX0_newText 121 = .ok (.ireturn, 1) := dk_172 (dk_at dksX0_newText_5 1 rfl rfl)
abbrev cX0_next : ByteArray := prog_1_method_16_code
def yX0_next : MethodName := ⟨RX0, "next", "()V"⟩
def dkwX0_next_5 : List UInt8 := [18, 165, 27, 182, 0, 167, 156, 0, 8, 42, 180, 0, 172, 191, 177]
abbrev dktX0_next_5 : List UInt8 := dkwX0_next_5 ++ []
def dkwX0_next_4 : List UInt8 := [167, 0, 37, 42, 7, 181, 0, 146, 42, 27, 181, 0, 162, 42, 89, 180, 0, 137, 4, 96, 181, 0, 137]
abbrev dktX0_next_4 : List UInt8 := dkwX0_next_4 ++ dktX0_next_5
def dkwX0_next_3 : List UInt8 := [184, 0, 149, 153, 0, 10, 42, 182, 0, 152, 167, 0, 51, 27, 184, 0, 156, 153, 0, 10, 42, 182, 0, 159]
abbrev dktX0_next_3 : List UInt8 := dkwX0_next_3 ++ dktX0_next_4
def dkwX0_next_2 : List UInt8 := [42, 42, 180, 0, 137, 182, 0, 140, 60, 27, 2, 160, 0, 11, 42, 3, 181, 0, 146, 167, 0, 65, 27]
abbrev dktX0_next_2 : List UInt8 := dkwX0_next_2 ++ dktX0_next_3
def dkwX0_next_1 : List UInt8 := [160, 0, 16, 42, 89, 180, 0, 137, 4, 96, 181, 0, 137, 167, 255, 220, 42, 42, 180, 0, 137, 181, 0, 143]
abbrev dktX0_next_1 : List UInt8 := dkwX0_next_1 ++ dktX0_next_2
def dkwX0_next_0 : List UInt8 := [42, 42, 180, 0, 137, 182, 0, 140, 16, 32, 159, 0, 16, 42, 42, 180, 0, 137, 182, 0, 140, 16, 10]
abbrev dktX0_next_0 : List UInt8 := dkwX0_next_0 ++ dktX0_next_1
theorem dksX0_next_0 : cX0_next.data.toList.drop 0 = dktX0_next_0 := by decide +kernel
theorem dksX0_next_1 : cX0_next.data.toList.drop 23 = dktX0_next_1 := dk_seg dksX0_next_0 23 rfl rfl
theorem dksX0_next_2 : cX0_next.data.toList.drop 47 = dktX0_next_2 := dk_seg dksX0_next_1 24 rfl rfl
theorem dksX0_next_3 : cX0_next.data.toList.drop 70 = dktX0_next_3 := dk_seg dksX0_next_2 23 rfl rfl
theorem dksX0_next_4 : cX0_next.data.toList.drop 94 = dktX0_next_4 := dk_seg dksX0_next_3 24 rfl rfl
theorem dksX0_next_5 : cX0_next.data.toList.drop 117 = dktX0_next_5 := dk_seg dksX0_next_4 23 rfl rfl
theorem dX0_next_0 : decode cX0_next 0 = .ok (.aload_n 0, 1) := dk_42 (dk_at dksX0_next_0 0 rfl rfl)
theorem dX0_next_1 : decode cX0_next 1 = .ok (.aload_n 0, 1) := dk_42 (dk_at dksX0_next_0 1 rfl rfl)
theorem dX0_next_2 : decode cX0_next 2 = .ok (.getfield 137, 3) := dk_180 0 137 (dk_at dksX0_next_0 2 rfl rfl)
theorem dX0_next_5 : decode cX0_next 5 = .ok (.invokevirtual 140, 3) := dk_182 0 140 (dk_at dksX0_next_0 5 rfl rfl)
theorem dX0_next_8 : decode cX0_next 8 = .ok (.bipush 32, 2) := dk_16 32 (dk_at dksX0_next_0 8 rfl rfl)
theorem dX0_next_10 : decode cX0_next 10 = .ok (.if_icmp .eq 16, 3) := dk_159 0 16 (dk_at dksX0_next_0 10 rfl rfl)
theorem dX0_next_13 : decode cX0_next 13 = .ok (.aload_n 0, 1) := dk_42 (dk_at dksX0_next_0 13 rfl rfl)
theorem dX0_next_14 : decode cX0_next 14 = .ok (.aload_n 0, 1) := dk_42 (dk_at dksX0_next_0 14 rfl rfl)
theorem dX0_next_15 : decode cX0_next 15 = .ok (.getfield 137, 3) := dk_180 0 137 (dk_at dksX0_next_0 15 rfl rfl)
theorem dX0_next_18 : decode cX0_next 18 = .ok (.invokevirtual 140, 3) := dk_182 0 140 (dk_at dksX0_next_0 18 rfl rfl)
theorem dX0_next_21 : decode cX0_next 21 = .ok (.bipush 10, 2) := dk_16 10 (dk_at dksX0_next_0 21 rfl rfl)
theorem dX0_next_23 : decode cX0_next 23 = .ok (.if_icmp .ne 16, 3) := dk_160 0 16 (dk_at dksX0_next_1 0 rfl rfl)
theorem dX0_next_26 : decode cX0_next 26 = .ok (.aload_n 0, 1) := dk_42 (dk_at dksX0_next_1 3 rfl rfl)
theorem dX0_next_27 : decode cX0_next 27 = .ok (.dup, 1) := dk_89 (dk_at dksX0_next_1 4 rfl rfl)
theorem dX0_next_28 : decode cX0_next 28 = .ok (.getfield 137, 3) := dk_180 0 137 (dk_at dksX0_next_1 5 rfl rfl)
theorem dX0_next_31 : decode cX0_next 31 = .ok (.iconst 1, 1) := dk_4 (dk_at dksX0_next_1 8 rfl rfl)
theorem dX0_next_32 : decode cX0_next 32 = .ok (.iadd, 1) := dk_96 (dk_at dksX0_next_1 9 rfl rfl)
theorem dX0_next_33 : decode cX0_next 33 = .ok (.putfield 137, 3) := dk_181 0 137 (dk_at dksX0_next_1 10 rfl rfl)
theorem dX0_next_36 : decode cX0_next 36 = .ok (.goto (-36), 3) := dk_167 255 220 (dk_at dksX0_next_1 13 rfl rfl)
theorem dX0_next_39 : decode cX0_next 39 = .ok (.aload_n 0, 1) := dk_42 (dk_at dksX0_next_1 16 rfl rfl)
theorem dX0_next_40 : decode cX0_next 40 = .ok (.aload_n 0, 1) := dk_42 (dk_at dksX0_next_1 17 rfl rfl)
theorem dX0_next_41 : decode cX0_next 41 = .ok (.getfield 137, 3) := dk_180 0 137 (dk_at dksX0_next_1 18 rfl rfl)
theorem dX0_next_44 : decode cX0_next 44 = .ok (.putfield 143, 3) := dk_181 0 143 (dk_at dksX0_next_1 21 rfl rfl)
theorem dX0_next_47 : decode cX0_next 47 = .ok (.aload_n 0, 1) := dk_42 (dk_at dksX0_next_2 0 rfl rfl)
theorem dX0_next_48 : decode cX0_next 48 = .ok (.aload_n 0, 1) := dk_42 (dk_at dksX0_next_2 1 rfl rfl)
theorem dX0_next_49 : decode cX0_next 49 = .ok (.getfield 137, 3) := dk_180 0 137 (dk_at dksX0_next_2 2 rfl rfl)
theorem dX0_next_52 : decode cX0_next 52 = .ok (.invokevirtual 140, 3) := dk_182 0 140 (dk_at dksX0_next_2 5 rfl rfl)
theorem dX0_next_55 : decode cX0_next 55 = .ok (.istore_n 1, 1) := dk_60 (dk_at dksX0_next_2 8 rfl rfl)
theorem dX0_next_56 : decode cX0_next 56 = .ok (.iload_n 1, 1) := dk_27 (dk_at dksX0_next_2 9 rfl rfl)
theorem dX0_next_57 : decode cX0_next 57 = .ok (.iconst (-1), 1) := dk_2 (dk_at dksX0_next_2 10 rfl rfl)
theorem dX0_next_58 : decode cX0_next 58 = .ok (.if_icmp .ne 11, 3) := dk_160 0 11 (dk_at dksX0_next_2 11 rfl rfl)
theorem dX0_next_61 : decode cX0_next 61 = .ok (.aload_n 0, 1) := dk_42 (dk_at dksX0_next_2 14 rfl rfl)
theorem dX0_next_62 : decode cX0_next 62 = .ok (.iconst 0, 1) := dk_3 (dk_at dksX0_next_2 15 rfl rfl)
theorem dX0_next_63 : decode cX0_next 63 = .ok (.putfield 146, 3) := dk_181 0 146 (dk_at dksX0_next_2 16 rfl rfl)
theorem dX0_next_66 : decode cX0_next 66 = .ok (.goto 65, 3) := dk_167 0 65 (dk_at dksX0_next_2 19 rfl rfl)
theorem dX0_next_69 : decode cX0_next 69 = .ok (.iload_n 1, 1) := dk_27 (dk_at dksX0_next_2 22 rfl rfl)
theorem dX0_next_70 : decode cX0_next 70 = .ok (.invokestatic 149, 3) := dk_184 0 149 (dk_at dksX0_next_3 0 rfl rfl)
theorem dX0_next_73 : decode cX0_next 73 = .ok (.ifCond .eq 10, 3) := dk_153 0 10 (dk_at dksX0_next_3 3 rfl rfl)
theorem dX0_next_76 : decode cX0_next 76 = .ok (.aload_n 0, 1) := dk_42 (dk_at dksX0_next_3 6 rfl rfl)
theorem dX0_next_77 : decode cX0_next 77 = .ok (.invokevirtual 152, 3) := dk_182 0 152 (dk_at dksX0_next_3 7 rfl rfl)
theorem dX0_next_80 : decode cX0_next 80 = .ok (.goto 51, 3) := dk_167 0 51 (dk_at dksX0_next_3 10 rfl rfl)
theorem dX0_next_83 : decode cX0_next 83 = .ok (.iload_n 1, 1) := dk_27 (dk_at dksX0_next_3 13 rfl rfl)
theorem dX0_next_84 : decode cX0_next 84 = .ok (.invokestatic 156, 3) := dk_184 0 156 (dk_at dksX0_next_3 14 rfl rfl)
theorem dX0_next_87 : decode cX0_next 87 = .ok (.ifCond .eq 10, 3) := dk_153 0 10 (dk_at dksX0_next_3 17 rfl rfl)
theorem dX0_next_90 : decode cX0_next 90 = .ok (.aload_n 0, 1) := dk_42 (dk_at dksX0_next_3 20 rfl rfl)
theorem dX0_next_91 : decode cX0_next 91 = .ok (.invokevirtual 159, 3) := dk_182 0 159 (dk_at dksX0_next_3 21 rfl rfl)
theorem dX0_next_94 : decode cX0_next 94 = .ok (.goto 37, 3) := dk_167 0 37 (dk_at dksX0_next_4 0 rfl rfl)
theorem dX0_next_97 : decode cX0_next 97 = .ok (.aload_n 0, 1) := dk_42 (dk_at dksX0_next_4 3 rfl rfl)
theorem dX0_next_98 : decode cX0_next 98 = .ok (.iconst 4, 1) := dk_7 (dk_at dksX0_next_4 4 rfl rfl)
theorem dX0_next_99 : decode cX0_next 99 = .ok (.putfield 146, 3) := dk_181 0 146 (dk_at dksX0_next_4 5 rfl rfl)
theorem dX0_next_102 : decode cX0_next 102 = .ok (.aload_n 0, 1) := dk_42 (dk_at dksX0_next_4 8 rfl rfl)
theorem dX0_next_103 : decode cX0_next 103 = .ok (.iload_n 1, 1) := dk_27 (dk_at dksX0_next_4 9 rfl rfl)
theorem dX0_next_104 : decode cX0_next 104 = .ok (.putfield 162, 3) := dk_181 0 162 (dk_at dksX0_next_4 10 rfl rfl)
theorem dX0_next_107 : decode cX0_next 107 = .ok (.aload_n 0, 1) := dk_42 (dk_at dksX0_next_4 13 rfl rfl)
theorem dX0_next_108 : decode cX0_next 108 = .ok (.dup, 1) := dk_89 (dk_at dksX0_next_4 14 rfl rfl)
theorem dX0_next_109 : decode cX0_next 109 = .ok (.getfield 137, 3) := dk_180 0 137 (dk_at dksX0_next_4 15 rfl rfl)
theorem dX0_next_112 : decode cX0_next 112 = .ok (.iconst 1, 1) := dk_4 (dk_at dksX0_next_4 18 rfl rfl)
theorem dX0_next_113 : decode cX0_next 113 = .ok (.iadd, 1) := dk_96 (dk_at dksX0_next_4 19 rfl rfl)
theorem dX0_next_114 : decode cX0_next 114 = .ok (.putfield 137, 3) := dk_181 0 137 (dk_at dksX0_next_4 20 rfl rfl)
theorem dX0_next_117 : decode cX0_next 117 = .ok (.ldc 165, 2) := dk_18 165 (dk_at dksX0_next_5 0 rfl rfl)
theorem dX0_next_119 : decode cX0_next 119 = .ok (.iload_n 1, 1) := dk_27 (dk_at dksX0_next_5 2 rfl rfl)
theorem dX0_next_120 : decode cX0_next 120 = .ok (.invokevirtual 167, 3) := dk_182 0 167 (dk_at dksX0_next_5 3 rfl rfl)
theorem dX0_next_123 : decode cX0_next 123 = .ok (.ifCond .ge 8, 3) := dk_156 0 8 (dk_at dksX0_next_5 6 rfl rfl)
theorem dX0_next_126 : decode cX0_next 126 = .ok (.aload_n 0, 1) := dk_42 (dk_at dksX0_next_5 9 rfl rfl)
theorem dX0_next_127 : decode cX0_next 127 = .ok (.getfield 172, 3) := dk_180 0 172 (dk_at dksX0_next_5 10 rfl rfl)
theorem dX0_next_130 : decode cX0_next 130 = .ok (.athrow, 1) := dk_191 (dk_at dksX0_next_5 13 rfl rfl)
theorem dX0_next_131 : decode cX0_next 131 = .ok (.return_, 1) := dk_177 (dk_at dksX0_next_5 14 rfl rfl)
abbrev cX0_byteAt : ByteArray := prog_1_method_13_code
def yX0_byteAt : MethodName := ⟨RX0, "byteAt", "(I)I"⟩
def dkwX0_byteAt_0 : List UInt8 := [27, 42, 180, 0, 122, 162, 0, 16, 42, 180, 0, 125, 27, 51, 17, 0, 255, 126, 167, 0, 4, 2, 172]
abbrev dktX0_byteAt_0 : List UInt8 := dkwX0_byteAt_0 ++ []
theorem dksX0_byteAt_0 : cX0_byteAt.data.toList.drop 0 = dktX0_byteAt_0 := by decide +kernel
theorem dX0_byteAt_0 : decode cX0_byteAt 0 = .ok (.iload_n 1, 1) := dk_27 (dk_at dksX0_byteAt_0 0 rfl rfl)
theorem dX0_byteAt_1 : decode cX0_byteAt 1 = .ok (.aload_n 0, 1) := dk_42 (dk_at dksX0_byteAt_0 1 rfl rfl)
theorem dX0_byteAt_2 : decode cX0_byteAt 2 = .ok (.getfield 122, 3) := dk_180 0 122 (dk_at dksX0_byteAt_0 2 rfl rfl)
theorem dX0_byteAt_5 : decode cX0_byteAt 5 = .ok (.if_icmp .ge 16, 3) := dk_162 0 16 (dk_at dksX0_byteAt_0 5 rfl rfl)
theorem dX0_byteAt_8 : decode cX0_byteAt 8 = .ok (.aload_n 0, 1) := dk_42 (dk_at dksX0_byteAt_0 8 rfl rfl)
theorem dX0_byteAt_9 : decode cX0_byteAt 9 = .ok (.getfield 125, 3) := dk_180 0 125 (dk_at dksX0_byteAt_0 9 rfl rfl)
theorem dX0_byteAt_12 : decode cX0_byteAt 12 = .ok (.iload_n 1, 1) := dk_27 (dk_at dksX0_byteAt_0 12 rfl rfl)
theorem dX0_byteAt_13 : decode cX0_byteAt 13 = .ok (.baload, 1) := dk_51 (dk_at dksX0_byteAt_0 13 rfl rfl)
theorem dX0_byteAt_14 : decode cX0_byteAt 14 = .ok (.sipush 255, 3) := dk_17 0 255 (dk_at dksX0_byteAt_0 14 rfl rfl)
theorem dX0_byteAt_17 : decode cX0_byteAt 17 = .ok (.iand, 1) := dk_126 (dk_at dksX0_byteAt_0 17 rfl rfl)
theorem dX0_byteAt_18 : decode cX0_byteAt 18 = .ok (.goto 4, 3) := dk_167 0 4 (dk_at dksX0_byteAt_0 18 rfl rfl)
theorem dX0_byteAt_21 : decode cX0_byteAt 21 = .ok (.iconst (-1), 1) := dk_2 (dk_at dksX0_byteAt_0 21 rfl rfl)
theorem dX0_byteAt_22 : decode cX0_byteAt 22 = .ok (.ireturn, 1) := dk_172 (dk_at dksX0_byteAt_0 22 rfl rfl)
abbrev cX0_isLetter : ByteArray := prog_1_method_14_code
def yX0_isLetter : MethodName := ⟨RX0, "isLetter", "(I)Z"⟩
def dkwX0_isLetter_0 : List UInt8 := [26, 133, 20, 0, 129, 20, 0, 131, 184, 0, 5, 172]
abbrev dktX0_isLetter_0 : List UInt8 := dkwX0_isLetter_0 ++ []
theorem dksX0_isLetter_0 : cX0_isLetter.data.toList.drop 0 = dktX0_isLetter_0 := by decide +kernel
theorem dX0_isLetter_0 : decode cX0_isLetter 0 = .ok (.iload_n 0, 1) := dk_26 (dk_at dksX0_isLetter_0 0 rfl rfl)
theorem dX0_isLetter_1 : decode cX0_isLetter 1 = .ok (.i2l, 1) := dk_133 (dk_at dksX0_isLetter_0 1 rfl rfl)
theorem dX0_isLetter_2 : decode cX0_isLetter 2 = .ok (.ldc2_w 129, 3) := dk_20 0 129 (dk_at dksX0_isLetter_0 2 rfl rfl)
theorem dX0_isLetter_5 : decode cX0_isLetter 5 = .ok (.ldc2_w 131, 3) := dk_20 0 131 (dk_at dksX0_isLetter_0 5 rfl rfl)
theorem dX0_isLetter_8 : decode cX0_isLetter 8 = .ok (.invokestatic 5, 3) := dk_184 0 5 (dk_at dksX0_isLetter_0 8 rfl rfl)
theorem dX0_isLetter_11 : decode cX0_isLetter 11 = .ok (.ireturn, 1) := dk_172 (dk_at dksX0_isLetter_0 11 rfl rfl)
abbrev cX0_word : ByteArray := prog_1_method_18_code
def yX0_word : MethodName := ⟨RX0, "word", "()V"⟩
def dkwX0_word_3 : List UInt8 := [42, 180, 0, 162, 2, 160, 0, 8, 42, 180, 0, 172, 191, 177]
abbrev dktX0_word_3 : List UInt8 := dkwX0_word_3 ++ []
def dkwX0_word_2 : List UInt8 := [181, 0, 146, 42, 27, 2, 160, 0, 14, 42, 42, 180, 0, 190, 182, 0, 186, 167, 0, 4, 27, 181, 0, 162]
abbrev dktX0_word_2 : List UInt8 := dkwX0_word_2 ++ dktX0_word_3
def dkwX0_word_1 : List UInt8 := [167, 255, 232, 42, 42, 180, 0, 182, 182, 0, 186, 60, 42, 27, 2, 160, 0, 7, 5, 167, 0, 4, 4]
abbrev dktX0_word_1 : List UInt8 := dkwX0_word_1 ++ dktX0_word_2
def dkwX0_word_0 : List UInt8 := [42, 42, 180, 0, 137, 182, 0, 140, 184, 0, 149, 153, 0, 16, 42, 89, 180, 0, 137, 4, 96, 181, 0, 137]
abbrev dktX0_word_0 : List UInt8 := dkwX0_word_0 ++ dktX0_word_1
theorem dksX0_word_0 : cX0_word.data.toList.drop 0 = dktX0_word_0 := by decide +kernel
theorem dksX0_word_1 : cX0_word.data.toList.drop 24 = dktX0_word_1 := dk_seg dksX0_word_0 24 rfl rfl
theorem dksX0_word_2 : cX0_word.data.toList.drop 47 = dktX0_word_2 := dk_seg dksX0_word_1 23 rfl rfl
theorem dksX0_word_3 : cX0_word.data.toList.drop 71 = dktX0_word_3 := dk_seg dksX0_word_2 24 rfl rfl
theorem dX0_word_0 : decode cX0_word 0 = .ok (.aload_n 0, 1) := dk_42 (dk_at dksX0_word_0 0 rfl rfl)
theorem dX0_word_1 : decode cX0_word 1 = .ok (.aload_n 0, 1) := dk_42 (dk_at dksX0_word_0 1 rfl rfl)
theorem dX0_word_2 : decode cX0_word 2 = .ok (.getfield 137, 3) := dk_180 0 137 (dk_at dksX0_word_0 2 rfl rfl)
theorem dX0_word_5 : decode cX0_word 5 = .ok (.invokevirtual 140, 3) := dk_182 0 140 (dk_at dksX0_word_0 5 rfl rfl)
theorem dX0_word_8 : decode cX0_word 8 = .ok (.invokestatic 149, 3) := dk_184 0 149 (dk_at dksX0_word_0 8 rfl rfl)
theorem dX0_word_11 : decode cX0_word 11 = .ok (.ifCond .eq 16, 3) := dk_153 0 16 (dk_at dksX0_word_0 11 rfl rfl)
theorem dX0_word_14 : decode cX0_word 14 = .ok (.aload_n 0, 1) := dk_42 (dk_at dksX0_word_0 14 rfl rfl)
theorem dX0_word_15 : decode cX0_word 15 = .ok (.dup, 1) := dk_89 (dk_at dksX0_word_0 15 rfl rfl)
theorem dX0_word_16 : decode cX0_word 16 = .ok (.getfield 137, 3) := dk_180 0 137 (dk_at dksX0_word_0 16 rfl rfl)
theorem dX0_word_19 : decode cX0_word 19 = .ok (.iconst 1, 1) := dk_4 (dk_at dksX0_word_0 19 rfl rfl)
theorem dX0_word_20 : decode cX0_word 20 = .ok (.iadd, 1) := dk_96 (dk_at dksX0_word_0 20 rfl rfl)
theorem dX0_word_21 : decode cX0_word 21 = .ok (.putfield 137, 3) := dk_181 0 137 (dk_at dksX0_word_0 21 rfl rfl)
theorem dX0_word_24 : decode cX0_word 24 = .ok (.goto (-24), 3) := dk_167 255 232 (dk_at dksX0_word_1 0 rfl rfl)
theorem dX0_word_27 : decode cX0_word 27 = .ok (.aload_n 0, 1) := dk_42 (dk_at dksX0_word_1 3 rfl rfl)
theorem dX0_word_28 : decode cX0_word 28 = .ok (.aload_n 0, 1) := dk_42 (dk_at dksX0_word_1 4 rfl rfl)
theorem dX0_word_29 : decode cX0_word 29 = .ok (.getfield 182, 3) := dk_180 0 182 (dk_at dksX0_word_1 5 rfl rfl)
theorem dX0_word_32 : decode cX0_word 32 = .ok (.invokevirtual 186, 3) := dk_182 0 186 (dk_at dksX0_word_1 8 rfl rfl)
theorem dX0_word_35 : decode cX0_word 35 = .ok (.istore_n 1, 1) := dk_60 (dk_at dksX0_word_1 11 rfl rfl)
theorem dX0_word_36 : decode cX0_word 36 = .ok (.aload_n 0, 1) := dk_42 (dk_at dksX0_word_1 12 rfl rfl)
theorem dX0_word_37 : decode cX0_word 37 = .ok (.iload_n 1, 1) := dk_27 (dk_at dksX0_word_1 13 rfl rfl)
theorem dX0_word_38 : decode cX0_word 38 = .ok (.iconst (-1), 1) := dk_2 (dk_at dksX0_word_1 14 rfl rfl)
theorem dX0_word_39 : decode cX0_word 39 = .ok (.if_icmp .ne 7, 3) := dk_160 0 7 (dk_at dksX0_word_1 15 rfl rfl)
theorem dX0_word_42 : decode cX0_word 42 = .ok (.iconst 2, 1) := dk_5 (dk_at dksX0_word_1 18 rfl rfl)
theorem dX0_word_43 : decode cX0_word 43 = .ok (.goto 4, 3) := dk_167 0 4 (dk_at dksX0_word_1 19 rfl rfl)
theorem dX0_word_46 : decode cX0_word 46 = .ok (.iconst 1, 1) := dk_4 (dk_at dksX0_word_1 22 rfl rfl)
theorem dX0_word_47 : decode cX0_word 47 = .ok (.putfield 146, 3) := dk_181 0 146 (dk_at dksX0_word_2 0 rfl rfl)
theorem dX0_word_50 : decode cX0_word 50 = .ok (.aload_n 0, 1) := dk_42 (dk_at dksX0_word_2 3 rfl rfl)
theorem dX0_word_51 : decode cX0_word 51 = .ok (.iload_n 1, 1) := dk_27 (dk_at dksX0_word_2 4 rfl rfl)
theorem dX0_word_52 : decode cX0_word 52 = .ok (.iconst (-1), 1) := dk_2 (dk_at dksX0_word_2 5 rfl rfl)
theorem dX0_word_53 : decode cX0_word 53 = .ok (.if_icmp .ne 14, 3) := dk_160 0 14 (dk_at dksX0_word_2 6 rfl rfl)
theorem dX0_word_56 : decode cX0_word 56 = .ok (.aload_n 0, 1) := dk_42 (dk_at dksX0_word_2 9 rfl rfl)
theorem dX0_word_57 : decode cX0_word 57 = .ok (.aload_n 0, 1) := dk_42 (dk_at dksX0_word_2 10 rfl rfl)
theorem dX0_word_58 : decode cX0_word 58 = .ok (.getfield 190, 3) := dk_180 0 190 (dk_at dksX0_word_2 11 rfl rfl)
theorem dX0_word_61 : decode cX0_word 61 = .ok (.invokevirtual 186, 3) := dk_182 0 186 (dk_at dksX0_word_2 14 rfl rfl)
theorem dX0_word_64 : decode cX0_word 64 = .ok (.goto 4, 3) := dk_167 0 4 (dk_at dksX0_word_2 17 rfl rfl)
theorem dX0_word_67 : decode cX0_word 67 = .ok (.iload_n 1, 1) := dk_27 (dk_at dksX0_word_2 20 rfl rfl)
theorem dX0_word_68 : decode cX0_word 68 = .ok (.putfield 162, 3) := dk_181 0 162 (dk_at dksX0_word_2 21 rfl rfl)
theorem dX0_word_71 : decode cX0_word 71 = .ok (.aload_n 0, 1) := dk_42 (dk_at dksX0_word_3 0 rfl rfl)
theorem dX0_word_72 : decode cX0_word 72 = .ok (.getfield 162, 3) := dk_180 0 162 (dk_at dksX0_word_3 1 rfl rfl)
theorem dX0_word_75 : decode cX0_word 75 = .ok (.iconst (-1), 1) := dk_2 (dk_at dksX0_word_3 4 rfl rfl)
theorem dX0_word_76 : decode cX0_word 76 = .ok (.if_icmp .ne 8, 3) := dk_160 0 8 (dk_at dksX0_word_3 5 rfl rfl)
theorem dX0_word_79 : decode cX0_word 79 = .ok (.aload_n 0, 1) := dk_42 (dk_at dksX0_word_3 8 rfl rfl)
theorem dX0_word_80 : decode cX0_word 80 = .ok (.getfield 172, 3) := dk_180 0 172 (dk_at dksX0_word_3 9 rfl rfl)
theorem dX0_word_83 : decode cX0_word 83 = .ok (.athrow, 1) := dk_191 (dk_at dksX0_word_3 12 rfl rfl)
theorem dX0_word_84 : decode cX0_word 84 = .ok (.return_, 1) := dk_177 (dk_at dksX0_word_3 13 rfl rfl)
abbrev cX0_placeIn : ByteArray := prog_1_method_17_code
def yX0_placeIn : MethodName := ⟨RX0, "placeIn", "([Ljava/lang/String;)I"⟩
def dkwX0_placeIn_4 : List UInt8 := [132, 2, 1, 167, 255, 162, 2, 172]
abbrev dktX0_placeIn_4 : List UInt8 := dkwX0_placeIn_4 ++ []
def dkwX0_placeIn_3 : List UInt8 := [182, 0, 140, 160, 0, 7, 4, 167, 0, 4, 3, 62, 132, 4, 1, 167, 255, 207, 29, 153, 0, 5, 28, 172]
abbrev dktX0_placeIn_3 : List UInt8 := dkwX0_placeIn_3 ++ dktX0_placeIn_4
def dkwX0_placeIn_2 : List UInt8 := [180, 0, 143, 100, 162, 0, 37, 43, 28, 50, 21, 4, 182, 0, 178, 42, 42, 180, 0, 143, 21, 4, 96]
abbrev dktX0_placeIn_2 : List UInt8 := dkwX0_placeIn_2 ++ dktX0_placeIn_3
def dkwX0_placeIn_1 : List UInt8 := [160, 0, 7, 4, 167, 0, 4, 3, 62, 3, 54, 4, 29, 153, 0, 51, 21, 4, 42, 180, 0, 137, 42]
abbrev dktX0_placeIn_1 : List UInt8 := dkwX0_placeIn_1 ++ dktX0_placeIn_2
def dkwX0_placeIn_0 : List UInt8 := [3, 61, 28, 43, 190, 162, 0, 94, 43, 28, 50, 182, 0, 176, 42, 180, 0, 137, 42, 180, 0, 143, 100]
abbrev dktX0_placeIn_0 : List UInt8 := dkwX0_placeIn_0 ++ dktX0_placeIn_1
theorem dksX0_placeIn_0 : cX0_placeIn.data.toList.drop 0 = dktX0_placeIn_0 := by decide +kernel
theorem dksX0_placeIn_1 : cX0_placeIn.data.toList.drop 23 = dktX0_placeIn_1 := dk_seg dksX0_placeIn_0 23 rfl rfl
theorem dksX0_placeIn_2 : cX0_placeIn.data.toList.drop 46 = dktX0_placeIn_2 := dk_seg dksX0_placeIn_1 23 rfl rfl
theorem dksX0_placeIn_3 : cX0_placeIn.data.toList.drop 69 = dktX0_placeIn_3 := dk_seg dksX0_placeIn_2 23 rfl rfl
theorem dksX0_placeIn_4 : cX0_placeIn.data.toList.drop 93 = dktX0_placeIn_4 := dk_seg dksX0_placeIn_3 24 rfl rfl
theorem dX0_placeIn_0 : decode cX0_placeIn 0 = .ok (.iconst 0, 1) := dk_3 (dk_at dksX0_placeIn_0 0 rfl rfl)
theorem dX0_placeIn_1 : decode cX0_placeIn 1 = .ok (.istore_n 2, 1) := dk_61 (dk_at dksX0_placeIn_0 1 rfl rfl)
theorem dX0_placeIn_2 : decode cX0_placeIn 2 = .ok (.iload_n 2, 1) := dk_28 (dk_at dksX0_placeIn_0 2 rfl rfl)
theorem dX0_placeIn_3 : decode cX0_placeIn 3 = .ok (.aload_n 1, 1) := dk_43 (dk_at dksX0_placeIn_0 3 rfl rfl)
theorem dX0_placeIn_4 : decode cX0_placeIn 4 = .ok (.arraylength, 1) := dk_190 (dk_at dksX0_placeIn_0 4 rfl rfl)
theorem dX0_placeIn_5 : decode cX0_placeIn 5 = .ok (.if_icmp .ge 94, 3) := dk_162 0 94 (dk_at dksX0_placeIn_0 5 rfl rfl)
theorem dX0_placeIn_8 : decode cX0_placeIn 8 = .ok (.aload_n 1, 1) := dk_43 (dk_at dksX0_placeIn_0 8 rfl rfl)
theorem dX0_placeIn_9 : decode cX0_placeIn 9 = .ok (.iload_n 2, 1) := dk_28 (dk_at dksX0_placeIn_0 9 rfl rfl)
theorem dX0_placeIn_10 : decode cX0_placeIn 10 = .ok (.aaload, 1) := dk_50 (dk_at dksX0_placeIn_0 10 rfl rfl)
theorem dX0_placeIn_11 : decode cX0_placeIn 11 = .ok (.invokevirtual 176, 3) := dk_182 0 176 (dk_at dksX0_placeIn_0 11 rfl rfl)
theorem dX0_placeIn_14 : decode cX0_placeIn 14 = .ok (.aload_n 0, 1) := dk_42 (dk_at dksX0_placeIn_0 14 rfl rfl)
theorem dX0_placeIn_15 : decode cX0_placeIn 15 = .ok (.getfield 137, 3) := dk_180 0 137 (dk_at dksX0_placeIn_0 15 rfl rfl)
theorem dX0_placeIn_18 : decode cX0_placeIn 18 = .ok (.aload_n 0, 1) := dk_42 (dk_at dksX0_placeIn_0 18 rfl rfl)
theorem dX0_placeIn_19 : decode cX0_placeIn 19 = .ok (.getfield 143, 3) := dk_180 0 143 (dk_at dksX0_placeIn_0 19 rfl rfl)
theorem dX0_placeIn_22 : decode cX0_placeIn 22 = .ok (.isub, 1) := dk_100 (dk_at dksX0_placeIn_0 22 rfl rfl)
theorem dX0_placeIn_23 : decode cX0_placeIn 23 = .ok (.if_icmp .ne 7, 3) := dk_160 0 7 (dk_at dksX0_placeIn_1 0 rfl rfl)
theorem dX0_placeIn_26 : decode cX0_placeIn 26 = .ok (.iconst 1, 1) := dk_4 (dk_at dksX0_placeIn_1 3 rfl rfl)
theorem dX0_placeIn_27 : decode cX0_placeIn 27 = .ok (.goto 4, 3) := dk_167 0 4 (dk_at dksX0_placeIn_1 4 rfl rfl)
theorem dX0_placeIn_30 : decode cX0_placeIn 30 = .ok (.iconst 0, 1) := dk_3 (dk_at dksX0_placeIn_1 7 rfl rfl)
theorem dX0_placeIn_31 : decode cX0_placeIn 31 = .ok (.istore_n 3, 1) := dk_62 (dk_at dksX0_placeIn_1 8 rfl rfl)
theorem dX0_placeIn_32 : decode cX0_placeIn 32 = .ok (.iconst 0, 1) := dk_3 (dk_at dksX0_placeIn_1 9 rfl rfl)
theorem dX0_placeIn_33 : decode cX0_placeIn 33 = .ok (.istore 4, 2) := dk_54 4 (dk_at dksX0_placeIn_1 10 rfl rfl)
theorem dX0_placeIn_35 : decode cX0_placeIn 35 = .ok (.iload_n 3, 1) := dk_29 (dk_at dksX0_placeIn_1 12 rfl rfl)
theorem dX0_placeIn_36 : decode cX0_placeIn 36 = .ok (.ifCond .eq 51, 3) := dk_153 0 51 (dk_at dksX0_placeIn_1 13 rfl rfl)
theorem dX0_placeIn_39 : decode cX0_placeIn 39 = .ok (.iload 4, 2) := dk_21 4 (dk_at dksX0_placeIn_1 16 rfl rfl)
theorem dX0_placeIn_41 : decode cX0_placeIn 41 = .ok (.aload_n 0, 1) := dk_42 (dk_at dksX0_placeIn_1 18 rfl rfl)
theorem dX0_placeIn_42 : decode cX0_placeIn 42 = .ok (.getfield 137, 3) := dk_180 0 137 (dk_at dksX0_placeIn_1 19 rfl rfl)
theorem dX0_placeIn_45 : decode cX0_placeIn 45 = .ok (.aload_n 0, 1) := dk_42 (dk_at dksX0_placeIn_1 22 rfl rfl)
theorem dX0_placeIn_46 : decode cX0_placeIn 46 = .ok (.getfield 143, 3) := dk_180 0 143 (dk_at dksX0_placeIn_2 0 rfl rfl)
theorem dX0_placeIn_49 : decode cX0_placeIn 49 = .ok (.isub, 1) := dk_100 (dk_at dksX0_placeIn_2 3 rfl rfl)
theorem dX0_placeIn_50 : decode cX0_placeIn 50 = .ok (.if_icmp .ge 37, 3) := dk_162 0 37 (dk_at dksX0_placeIn_2 4 rfl rfl)
theorem dX0_placeIn_53 : decode cX0_placeIn 53 = .ok (.aload_n 1, 1) := dk_43 (dk_at dksX0_placeIn_2 7 rfl rfl)
theorem dX0_placeIn_54 : decode cX0_placeIn 54 = .ok (.iload_n 2, 1) := dk_28 (dk_at dksX0_placeIn_2 8 rfl rfl)
theorem dX0_placeIn_55 : decode cX0_placeIn 55 = .ok (.aaload, 1) := dk_50 (dk_at dksX0_placeIn_2 9 rfl rfl)
theorem dX0_placeIn_56 : decode cX0_placeIn 56 = .ok (.iload 4, 2) := dk_21 4 (dk_at dksX0_placeIn_2 10 rfl rfl)
theorem dX0_placeIn_58 : decode cX0_placeIn 58 = .ok (.invokevirtual 178, 3) := dk_182 0 178 (dk_at dksX0_placeIn_2 12 rfl rfl)
theorem dX0_placeIn_61 : decode cX0_placeIn 61 = .ok (.aload_n 0, 1) := dk_42 (dk_at dksX0_placeIn_2 15 rfl rfl)
theorem dX0_placeIn_62 : decode cX0_placeIn 62 = .ok (.aload_n 0, 1) := dk_42 (dk_at dksX0_placeIn_2 16 rfl rfl)
theorem dX0_placeIn_63 : decode cX0_placeIn 63 = .ok (.getfield 143, 3) := dk_180 0 143 (dk_at dksX0_placeIn_2 17 rfl rfl)
theorem dX0_placeIn_66 : decode cX0_placeIn 66 = .ok (.iload 4, 2) := dk_21 4 (dk_at dksX0_placeIn_2 20 rfl rfl)
theorem dX0_placeIn_68 : decode cX0_placeIn 68 = .ok (.iadd, 1) := dk_96 (dk_at dksX0_placeIn_2 22 rfl rfl)
theorem dX0_placeIn_69 : decode cX0_placeIn 69 = .ok (.invokevirtual 140, 3) := dk_182 0 140 (dk_at dksX0_placeIn_3 0 rfl rfl)
theorem dX0_placeIn_72 : decode cX0_placeIn 72 = .ok (.if_icmp .ne 7, 3) := dk_160 0 7 (dk_at dksX0_placeIn_3 3 rfl rfl)
theorem dX0_placeIn_75 : decode cX0_placeIn 75 = .ok (.iconst 1, 1) := dk_4 (dk_at dksX0_placeIn_3 6 rfl rfl)
theorem dX0_placeIn_76 : decode cX0_placeIn 76 = .ok (.goto 4, 3) := dk_167 0 4 (dk_at dksX0_placeIn_3 7 rfl rfl)
theorem dX0_placeIn_79 : decode cX0_placeIn 79 = .ok (.iconst 0, 1) := dk_3 (dk_at dksX0_placeIn_3 10 rfl rfl)
theorem dX0_placeIn_80 : decode cX0_placeIn 80 = .ok (.istore_n 3, 1) := dk_62 (dk_at dksX0_placeIn_3 11 rfl rfl)
theorem dX0_placeIn_81 : decode cX0_placeIn 81 = .ok (.iinc 4 1, 3) := dk_132 4 1 (dk_at dksX0_placeIn_3 12 rfl rfl)
theorem dX0_placeIn_84 : decode cX0_placeIn 84 = .ok (.goto (-49), 3) := dk_167 255 207 (dk_at dksX0_placeIn_3 15 rfl rfl)
theorem dX0_placeIn_87 : decode cX0_placeIn 87 = .ok (.iload_n 3, 1) := dk_29 (dk_at dksX0_placeIn_3 18 rfl rfl)
theorem dX0_placeIn_88 : decode cX0_placeIn 88 = .ok (.ifCond .eq 5, 3) := dk_153 0 5 (dk_at dksX0_placeIn_3 19 rfl rfl)
theorem dX0_placeIn_91 : decode cX0_placeIn 91 = .ok (.iload_n 2, 1) := dk_28 (dk_at dksX0_placeIn_3 22 rfl rfl)
theorem dX0_placeIn_92 : decode cX0_placeIn 92 = .ok (.ireturn, 1) := dk_172 (dk_at dksX0_placeIn_3 23 rfl rfl)
theorem dX0_placeIn_93 : decode cX0_placeIn 93 = .ok (.iinc 2 1, 3) := dk_132 2 1 (dk_at dksX0_placeIn_4 0 rfl rfl)
theorem dX0_placeIn_96 : decode cX0_placeIn 96 = .ok (.goto (-94), 3) := dk_167 255 162 (dk_at dksX0_placeIn_4 3 rfl rfl)
theorem dX0_placeIn_99 : decode cX0_placeIn 99 = .ok (.iconst (-1), 1) := dk_2 (dk_at dksX0_placeIn_4 6 rfl rfl)
theorem dX0_placeIn_100 : decode cX0_placeIn 100 = .ok (.ireturn, 1) := dk_172 (dk_at dksX0_placeIn_4 7 rfl rfl)
abbrev cX0_isDigit : ByteArray := prog_1_method_15_code
def yX0_isDigit : MethodName := ⟨RX0, "isDigit", "(I)Z"⟩
def dkwX0_isDigit_0 : List UInt8 := [26, 133, 20, 0, 133, 20, 0, 135, 184, 0, 5, 172]
abbrev dktX0_isDigit_0 : List UInt8 := dkwX0_isDigit_0 ++ []
theorem dksX0_isDigit_0 : cX0_isDigit.data.toList.drop 0 = dktX0_isDigit_0 := by decide +kernel
theorem dX0_isDigit_0 : decode cX0_isDigit 0 = .ok (.iload_n 0, 1) := dk_26 (dk_at dksX0_isDigit_0 0 rfl rfl)
theorem dX0_isDigit_1 : decode cX0_isDigit 1 = .ok (.i2l, 1) := dk_133 (dk_at dksX0_isDigit_0 1 rfl rfl)
theorem dX0_isDigit_2 : decode cX0_isDigit 2 = .ok (.ldc2_w 133, 3) := dk_20 0 133 (dk_at dksX0_isDigit_0 2 rfl rfl)
theorem dX0_isDigit_5 : decode cX0_isDigit 5 = .ok (.ldc2_w 135, 3) := dk_20 0 135 (dk_at dksX0_isDigit_0 5 rfl rfl)
theorem dX0_isDigit_8 : decode cX0_isDigit 8 = .ok (.invokestatic 5, 3) := dk_184 0 5 (dk_at dksX0_isDigit_0 8 rfl rfl)
theorem dX0_isDigit_11 : decode cX0_isDigit 11 = .ok (.ireturn, 1) := dk_172 (dk_at dksX0_isDigit_0 11 rfl rfl)
abbrev cX0_digits : ByteArray := prog_1_method_19_code
def yX0_digits : MethodName := ⟨RX0, "digits", "()V"⟩
def dkwX0_digits_4 : List UInt8 := [180, 0, 172, 191, 177]
abbrev dktX0_digits_4 : List UInt8 := dkwX0_digits_4 ++ []
def dkwX0_digits_3 : List UInt8 := [167, 255, 189, 42, 6, 181, 0, 146, 42, 180, 0, 137, 42, 180, 0, 143, 100, 7, 164, 0, 8, 42]
abbrev dktX0_digits_3 : List UInt8 := dkwX0_digits_3 ++ dktX0_digits_4
def dkwX0_digits_2 : List UInt8 := [96, 16, 48, 100, 167, 0, 7, 42, 180, 0, 162, 181, 0, 162, 42, 89, 180, 0, 137, 4, 96, 181, 0, 137]
abbrev dktX0_digits_2 : List UInt8 := dkwX0_digits_2 ++ dktX0_digits_3
def dkwX0_digits_1 : List UInt8 := [42, 180, 0, 143, 100, 7, 162, 0, 25, 16, 10, 42, 180, 0, 162, 104, 42, 42, 180, 0, 137, 182, 0, 140]
abbrev dktX0_digits_1 : List UInt8 := dkwX0_digits_1 ++ dktX0_digits_2
def dkwX0_digits_0 : List UInt8 := [42, 3, 181, 0, 162, 42, 42, 180, 0, 137, 182, 0, 140, 184, 0, 156, 153, 0, 59, 42, 42, 180, 0, 137]
abbrev dktX0_digits_0 : List UInt8 := dkwX0_digits_0 ++ dktX0_digits_1
theorem dksX0_digits_0 : cX0_digits.data.toList.drop 0 = dktX0_digits_0 := by decide +kernel
theorem dksX0_digits_1 : cX0_digits.data.toList.drop 24 = dktX0_digits_1 := dk_seg dksX0_digits_0 24 rfl rfl
theorem dksX0_digits_2 : cX0_digits.data.toList.drop 48 = dktX0_digits_2 := dk_seg dksX0_digits_1 24 rfl rfl
theorem dksX0_digits_3 : cX0_digits.data.toList.drop 72 = dktX0_digits_3 := dk_seg dksX0_digits_2 24 rfl rfl
theorem dksX0_digits_4 : cX0_digits.data.toList.drop 94 = dktX0_digits_4 := dk_seg dksX0_digits_3 22 rfl rfl
theorem dX0_digits_0 : decode cX0_digits 0 = .ok (.aload_n 0, 1) := dk_42 (dk_at dksX0_digits_0 0 rfl rfl)
theorem dX0_digits_1 : decode cX0_digits 1 = .ok (.iconst 0, 1) := dk_3 (dk_at dksX0_digits_0 1 rfl rfl)
theorem dX0_digits_2 : decode cX0_digits 2 = .ok (.putfield 162, 3) := dk_181 0 162 (dk_at dksX0_digits_0 2 rfl rfl)
theorem dX0_digits_5 : decode cX0_digits 5 = .ok (.aload_n 0, 1) := dk_42 (dk_at dksX0_digits_0 5 rfl rfl)
theorem dX0_digits_6 : decode cX0_digits 6 = .ok (.aload_n 0, 1) := dk_42 (dk_at dksX0_digits_0 6 rfl rfl)
theorem dX0_digits_7 : decode cX0_digits 7 = .ok (.getfield 137, 3) := dk_180 0 137 (dk_at dksX0_digits_0 7 rfl rfl)
theorem dX0_digits_10 : decode cX0_digits 10 = .ok (.invokevirtual 140, 3) := dk_182 0 140 (dk_at dksX0_digits_0 10 rfl rfl)
theorem dX0_digits_13 : decode cX0_digits 13 = .ok (.invokestatic 156, 3) := dk_184 0 156 (dk_at dksX0_digits_0 13 rfl rfl)
theorem dX0_digits_16 : decode cX0_digits 16 = .ok (.ifCond .eq 59, 3) := dk_153 0 59 (dk_at dksX0_digits_0 16 rfl rfl)
theorem dX0_digits_19 : decode cX0_digits 19 = .ok (.aload_n 0, 1) := dk_42 (dk_at dksX0_digits_0 19 rfl rfl)
theorem dX0_digits_20 : decode cX0_digits 20 = .ok (.aload_n 0, 1) := dk_42 (dk_at dksX0_digits_0 20 rfl rfl)
theorem dX0_digits_21 : decode cX0_digits 21 = .ok (.getfield 137, 3) := dk_180 0 137 (dk_at dksX0_digits_0 21 rfl rfl)
theorem dX0_digits_24 : decode cX0_digits 24 = .ok (.aload_n 0, 1) := dk_42 (dk_at dksX0_digits_1 0 rfl rfl)
theorem dX0_digits_25 : decode cX0_digits 25 = .ok (.getfield 143, 3) := dk_180 0 143 (dk_at dksX0_digits_1 1 rfl rfl)
theorem dX0_digits_28 : decode cX0_digits 28 = .ok (.isub, 1) := dk_100 (dk_at dksX0_digits_1 4 rfl rfl)
theorem dX0_digits_29 : decode cX0_digits 29 = .ok (.iconst 4, 1) := dk_7 (dk_at dksX0_digits_1 5 rfl rfl)
theorem dX0_digits_30 : decode cX0_digits 30 = .ok (.if_icmp .ge 25, 3) := dk_162 0 25 (dk_at dksX0_digits_1 6 rfl rfl)
theorem dX0_digits_33 : decode cX0_digits 33 = .ok (.bipush 10, 2) := dk_16 10 (dk_at dksX0_digits_1 9 rfl rfl)
theorem dX0_digits_35 : decode cX0_digits 35 = .ok (.aload_n 0, 1) := dk_42 (dk_at dksX0_digits_1 11 rfl rfl)
theorem dX0_digits_36 : decode cX0_digits 36 = .ok (.getfield 162, 3) := dk_180 0 162 (dk_at dksX0_digits_1 12 rfl rfl)
theorem dX0_digits_39 : decode cX0_digits 39 = .ok (.imul, 1) := dk_104 (dk_at dksX0_digits_1 15 rfl rfl)
theorem dX0_digits_40 : decode cX0_digits 40 = .ok (.aload_n 0, 1) := dk_42 (dk_at dksX0_digits_1 16 rfl rfl)
theorem dX0_digits_41 : decode cX0_digits 41 = .ok (.aload_n 0, 1) := dk_42 (dk_at dksX0_digits_1 17 rfl rfl)
theorem dX0_digits_42 : decode cX0_digits 42 = .ok (.getfield 137, 3) := dk_180 0 137 (dk_at dksX0_digits_1 18 rfl rfl)
theorem dX0_digits_45 : decode cX0_digits 45 = .ok (.invokevirtual 140, 3) := dk_182 0 140 (dk_at dksX0_digits_1 21 rfl rfl)
theorem dX0_digits_48 : decode cX0_digits 48 = .ok (.iadd, 1) := dk_96 (dk_at dksX0_digits_2 0 rfl rfl)
theorem dX0_digits_49 : decode cX0_digits 49 = .ok (.bipush 48, 2) := dk_16 48 (dk_at dksX0_digits_2 1 rfl rfl)
theorem dX0_digits_51 : decode cX0_digits 51 = .ok (.isub, 1) := dk_100 (dk_at dksX0_digits_2 3 rfl rfl)
theorem dX0_digits_52 : decode cX0_digits 52 = .ok (.goto 7, 3) := dk_167 0 7 (dk_at dksX0_digits_2 4 rfl rfl)
theorem dX0_digits_55 : decode cX0_digits 55 = .ok (.aload_n 0, 1) := dk_42 (dk_at dksX0_digits_2 7 rfl rfl)
theorem dX0_digits_56 : decode cX0_digits 56 = .ok (.getfield 162, 3) := dk_180 0 162 (dk_at dksX0_digits_2 8 rfl rfl)
theorem dX0_digits_59 : decode cX0_digits 59 = .ok (.putfield 162, 3) := dk_181 0 162 (dk_at dksX0_digits_2 11 rfl rfl)
theorem dX0_digits_62 : decode cX0_digits 62 = .ok (.aload_n 0, 1) := dk_42 (dk_at dksX0_digits_2 14 rfl rfl)
theorem dX0_digits_63 : decode cX0_digits 63 = .ok (.dup, 1) := dk_89 (dk_at dksX0_digits_2 15 rfl rfl)
theorem dX0_digits_64 : decode cX0_digits 64 = .ok (.getfield 137, 3) := dk_180 0 137 (dk_at dksX0_digits_2 16 rfl rfl)
theorem dX0_digits_67 : decode cX0_digits 67 = .ok (.iconst 1, 1) := dk_4 (dk_at dksX0_digits_2 19 rfl rfl)
theorem dX0_digits_68 : decode cX0_digits 68 = .ok (.iadd, 1) := dk_96 (dk_at dksX0_digits_2 20 rfl rfl)
theorem dX0_digits_69 : decode cX0_digits 69 = .ok (.putfield 137, 3) := dk_181 0 137 (dk_at dksX0_digits_2 21 rfl rfl)
theorem dX0_digits_72 : decode cX0_digits 72 = .ok (.goto (-67), 3) := dk_167 255 189 (dk_at dksX0_digits_3 0 rfl rfl)
theorem dX0_digits_75 : decode cX0_digits 75 = .ok (.aload_n 0, 1) := dk_42 (dk_at dksX0_digits_3 3 rfl rfl)
theorem dX0_digits_76 : decode cX0_digits 76 = .ok (.iconst 3, 1) := dk_6 (dk_at dksX0_digits_3 4 rfl rfl)
theorem dX0_digits_77 : decode cX0_digits 77 = .ok (.putfield 146, 3) := dk_181 0 146 (dk_at dksX0_digits_3 5 rfl rfl)
theorem dX0_digits_80 : decode cX0_digits 80 = .ok (.aload_n 0, 1) := dk_42 (dk_at dksX0_digits_3 8 rfl rfl)
theorem dX0_digits_81 : decode cX0_digits 81 = .ok (.getfield 137, 3) := dk_180 0 137 (dk_at dksX0_digits_3 9 rfl rfl)
theorem dX0_digits_84 : decode cX0_digits 84 = .ok (.aload_n 0, 1) := dk_42 (dk_at dksX0_digits_3 12 rfl rfl)
theorem dX0_digits_85 : decode cX0_digits 85 = .ok (.getfield 143, 3) := dk_180 0 143 (dk_at dksX0_digits_3 13 rfl rfl)
theorem dX0_digits_88 : decode cX0_digits 88 = .ok (.isub, 1) := dk_100 (dk_at dksX0_digits_3 16 rfl rfl)
theorem dX0_digits_89 : decode cX0_digits 89 = .ok (.iconst 4, 1) := dk_7 (dk_at dksX0_digits_3 17 rfl rfl)
theorem dX0_digits_90 : decode cX0_digits 90 = .ok (.if_icmp .le 8, 3) := dk_164 0 8 (dk_at dksX0_digits_3 18 rfl rfl)
theorem dX0_digits_93 : decode cX0_digits 93 = .ok (.aload_n 0, 1) := dk_42 (dk_at dksX0_digits_3 21 rfl rfl)
theorem dX0_digits_94 : decode cX0_digits 94 = .ok (.getfield 172, 3) := dk_180 0 172 (dk_at dksX0_digits_4 0 rfl rfl)
theorem dX0_digits_97 : decode cX0_digits 97 = .ok (.athrow, 1) := dk_191 (dk_at dksX0_digits_4 3 rfl rfl)
theorem dX0_digits_98 : decode cX0_digits 98 = .ok (.return_, 1) := dk_177 (dk_at dksX0_digits_4 4 rfl rfl)
abbrev cX0_isKey : ByteArray := prog_1_method_21_code
def yX0_isKey : MethodName := ⟨RX0, "isKey", "(I)Z"⟩
def dkwX0_isKey_0 : List UInt8 := [42, 180, 0, 146, 4, 160, 0, 15, 42, 180, 0, 162, 27, 160, 0, 7, 4, 167, 0, 4, 3, 172]
abbrev dktX0_isKey_0 : List UInt8 := dkwX0_isKey_0 ++ []
theorem dksX0_isKey_0 : cX0_isKey.data.toList.drop 0 = dktX0_isKey_0 := by decide +kernel
theorem dX0_isKey_0 : decode cX0_isKey 0 = .ok (.aload_n 0, 1) := dk_42 (dk_at dksX0_isKey_0 0 rfl rfl)
theorem dX0_isKey_1 : decode cX0_isKey 1 = .ok (.getfield 146, 3) := dk_180 0 146 (dk_at dksX0_isKey_0 1 rfl rfl)
theorem dX0_isKey_4 : decode cX0_isKey 4 = .ok (.iconst 1, 1) := dk_4 (dk_at dksX0_isKey_0 4 rfl rfl)
theorem dX0_isKey_5 : decode cX0_isKey 5 = .ok (.if_icmp .ne 15, 3) := dk_160 0 15 (dk_at dksX0_isKey_0 5 rfl rfl)
theorem dX0_isKey_8 : decode cX0_isKey 8 = .ok (.aload_n 0, 1) := dk_42 (dk_at dksX0_isKey_0 8 rfl rfl)
theorem dX0_isKey_9 : decode cX0_isKey 9 = .ok (.getfield 162, 3) := dk_180 0 162 (dk_at dksX0_isKey_0 9 rfl rfl)
theorem dX0_isKey_12 : decode cX0_isKey 12 = .ok (.iload_n 1, 1) := dk_27 (dk_at dksX0_isKey_0 12 rfl rfl)
theorem dX0_isKey_13 : decode cX0_isKey 13 = .ok (.if_icmp .ne 7, 3) := dk_160 0 7 (dk_at dksX0_isKey_0 13 rfl rfl)
theorem dX0_isKey_16 : decode cX0_isKey 16 = .ok (.iconst 1, 1) := dk_4 (dk_at dksX0_isKey_0 16 rfl rfl)
theorem dX0_isKey_17 : decode cX0_isKey 17 = .ok (.goto 4, 3) := dk_167 0 4 (dk_at dksX0_isKey_0 17 rfl rfl)
theorem dX0_isKey_20 : decode cX0_isKey 20 = .ok (.iconst 0, 1) := dk_3 (dk_at dksX0_isKey_0 20 rfl rfl)
theorem dX0_isKey_21 : decode cX0_isKey 21 = .ok (.ireturn, 1) := dk_172 (dk_at dksX0_isKey_0 21 rfl rfl)
abbrev cX0_need : ByteArray := prog_1_method_22_code
def yX0_need : MethodName := ⟨RX0, "need", "(Z)V"⟩
def dkwX0_need_0 : List UInt8 := [27, 154, 0, 8, 42, 180, 0, 172, 191, 42, 182, 0, 193, 177]
abbrev dktX0_need_0 : List UInt8 := dkwX0_need_0 ++ []
theorem dksX0_need_0 : cX0_need.data.toList.drop 0 = dktX0_need_0 := by decide +kernel
theorem dX0_need_0 : decode cX0_need 0 = .ok (.iload_n 1, 1) := dk_27 (dk_at dksX0_need_0 0 rfl rfl)
theorem dX0_need_1 : decode cX0_need 1 = .ok (.ifCond .ne 8, 3) := dk_154 0 8 (dk_at dksX0_need_0 1 rfl rfl)
theorem dX0_need_4 : decode cX0_need 4 = .ok (.aload_n 0, 1) := dk_42 (dk_at dksX0_need_0 4 rfl rfl)
theorem dX0_need_5 : decode cX0_need 5 = .ok (.getfield 172, 3) := dk_180 0 172 (dk_at dksX0_need_0 5 rfl rfl)
theorem dX0_need_8 : decode cX0_need 8 = .ok (.athrow, 1) := dk_191 (dk_at dksX0_need_0 8 rfl rfl)
theorem dX0_need_9 : decode cX0_need 9 = .ok (.aload_n 0, 1) := dk_42 (dk_at dksX0_need_0 9 rfl rfl)
theorem dX0_need_10 : decode cX0_need 10 = .ok (.invokevirtual 193, 3) := dk_182 0 193 (dk_at dksX0_need_0 10 rfl rfl)
theorem dX0_need_13 : decode cX0_need 13 = .ok (.return_, 1) := dk_177 (dk_at dksX0_need_0 13 rfl rfl)
abbrev cX0_either : ByteArray := prog_1_method_24_code
def yX0_either : MethodName := ⟨RX0, "either", "()LBoatsCalledIn$Node;"⟩
def dkwX0_either_1 : List UInt8 := [42, 182, 0, 203, 183, 0, 212, 76, 167, 255, 229, 43, 176]
abbrev dktX0_either_1 : List UInt8 := dkwX0_either_1 ++ []
def dkwX0_either_0 : List UInt8 := [42, 182, 0, 203, 76, 42, 6, 182, 0, 207, 153, 0, 25, 42, 182, 0, 193, 187, 0, 210, 89, 16, 124, 43]
abbrev dktX0_either_0 : List UInt8 := dkwX0_either_0 ++ dktX0_either_1
theorem dksX0_either_0 : cX0_either.data.toList.drop 0 = dktX0_either_0 := by decide +kernel
theorem dksX0_either_1 : cX0_either.data.toList.drop 24 = dktX0_either_1 := dk_seg dksX0_either_0 24 rfl rfl
theorem dX0_either_0 : decode cX0_either 0 = .ok (.aload_n 0, 1) := dk_42 (dk_at dksX0_either_0 0 rfl rfl)
theorem dX0_either_1 : decode cX0_either 1 = .ok (.invokevirtual 203, 3) := dk_182 0 203 (dk_at dksX0_either_0 1 rfl rfl)
theorem dX0_either_4 : decode cX0_either 4 = .ok (.astore_n 1, 1) := dk_76 (dk_at dksX0_either_0 4 rfl rfl)
theorem dX0_either_5 : decode cX0_either 5 = .ok (.aload_n 0, 1) := dk_42 (dk_at dksX0_either_0 5 rfl rfl)
theorem dX0_either_6 : decode cX0_either 6 = .ok (.iconst 3, 1) := dk_6 (dk_at dksX0_either_0 6 rfl rfl)
theorem dX0_either_7 : decode cX0_either 7 = .ok (.invokevirtual 207, 3) := dk_182 0 207 (dk_at dksX0_either_0 7 rfl rfl)
theorem dX0_either_10 : decode cX0_either 10 = .ok (.ifCond .eq 25, 3) := dk_153 0 25 (dk_at dksX0_either_0 10 rfl rfl)
theorem dX0_either_13 : decode cX0_either 13 = .ok (.aload_n 0, 1) := dk_42 (dk_at dksX0_either_0 13 rfl rfl)
theorem dX0_either_14 : decode cX0_either 14 = .ok (.invokevirtual 193, 3) := dk_182 0 193 (dk_at dksX0_either_0 14 rfl rfl)
theorem dX0_either_17 : decode cX0_either 17 = .ok (.new 210, 3) := dk_187 0 210 (dk_at dksX0_either_0 17 rfl rfl)
theorem dX0_either_20 : decode cX0_either 20 = .ok (.dup, 1) := dk_89 (dk_at dksX0_either_0 20 rfl rfl)
theorem dX0_either_21 : decode cX0_either 21 = .ok (.bipush 124, 2) := dk_16 124 (dk_at dksX0_either_0 21 rfl rfl)
theorem dX0_either_23 : decode cX0_either 23 = .ok (.aload_n 1, 1) := dk_43 (dk_at dksX0_either_0 23 rfl rfl)
theorem dX0_either_24 : decode cX0_either 24 = .ok (.aload_n 0, 1) := dk_42 (dk_at dksX0_either_1 0 rfl rfl)
theorem dX0_either_25 : decode cX0_either 25 = .ok (.invokevirtual 203, 3) := dk_182 0 203 (dk_at dksX0_either_1 1 rfl rfl)
theorem dX0_either_28 : decode cX0_either 28 = .ok (.invokespecial 212, 3) := dk_183 0 212 (dk_at dksX0_either_1 4 rfl rfl)
theorem dX0_either_31 : decode cX0_either 31 = .ok (.astore_n 1, 1) := dk_76 (dk_at dksX0_either_1 7 rfl rfl)
theorem dX0_either_32 : decode cX0_either 32 = .ok (.goto (-27), 3) := dk_167 255 229 (dk_at dksX0_either_1 8 rfl rfl)
theorem dX0_either_35 : decode cX0_either 35 = .ok (.aload_n 1, 1) := dk_43 (dk_at dksX0_either_1 11 rfl rfl)
theorem dX0_either_36 : decode cX0_either 36 = .ok (.areturn, 1) := dk_176 (dk_at dksX0_either_1 12 rfl rfl)
abbrev cX0_both : ByteArray := prog_1_method_25_code
def yX0_both : MethodName := ⟨RX0, "both", "()LBoatsCalledIn$Node;"⟩
def dkwX0_both_1 : List UInt8 := [42, 182, 0, 215, 183, 0, 212, 76, 167, 255, 229, 43, 176]
abbrev dktX0_both_1 : List UInt8 := dkwX0_both_1 ++ []
def dkwX0_both_0 : List UInt8 := [42, 182, 0, 215, 76, 42, 7, 182, 0, 207, 153, 0, 25, 42, 182, 0, 193, 187, 0, 210, 89, 16, 38, 43]
abbrev dktX0_both_0 : List UInt8 := dkwX0_both_0 ++ dktX0_both_1
theorem dksX0_both_0 : cX0_both.data.toList.drop 0 = dktX0_both_0 := by decide +kernel
theorem dksX0_both_1 : cX0_both.data.toList.drop 24 = dktX0_both_1 := dk_seg dksX0_both_0 24 rfl rfl
theorem dX0_both_0 : decode cX0_both 0 = .ok (.aload_n 0, 1) := dk_42 (dk_at dksX0_both_0 0 rfl rfl)
theorem dX0_both_1 : decode cX0_both 1 = .ok (.invokevirtual 215, 3) := dk_182 0 215 (dk_at dksX0_both_0 1 rfl rfl)
theorem dX0_both_4 : decode cX0_both 4 = .ok (.astore_n 1, 1) := dk_76 (dk_at dksX0_both_0 4 rfl rfl)
theorem dX0_both_5 : decode cX0_both 5 = .ok (.aload_n 0, 1) := dk_42 (dk_at dksX0_both_0 5 rfl rfl)
theorem dX0_both_6 : decode cX0_both 6 = .ok (.iconst 4, 1) := dk_7 (dk_at dksX0_both_0 6 rfl rfl)
theorem dX0_both_7 : decode cX0_both 7 = .ok (.invokevirtual 207, 3) := dk_182 0 207 (dk_at dksX0_both_0 7 rfl rfl)
theorem dX0_both_10 : decode cX0_both 10 = .ok (.ifCond .eq 25, 3) := dk_153 0 25 (dk_at dksX0_both_0 10 rfl rfl)
theorem dX0_both_13 : decode cX0_both 13 = .ok (.aload_n 0, 1) := dk_42 (dk_at dksX0_both_0 13 rfl rfl)
theorem dX0_both_14 : decode cX0_both 14 = .ok (.invokevirtual 193, 3) := dk_182 0 193 (dk_at dksX0_both_0 14 rfl rfl)
theorem dX0_both_17 : decode cX0_both 17 = .ok (.new 210, 3) := dk_187 0 210 (dk_at dksX0_both_0 17 rfl rfl)
theorem dX0_both_20 : decode cX0_both 20 = .ok (.dup, 1) := dk_89 (dk_at dksX0_both_0 20 rfl rfl)
theorem dX0_both_21 : decode cX0_both 21 = .ok (.bipush 38, 2) := dk_16 38 (dk_at dksX0_both_0 21 rfl rfl)
theorem dX0_both_23 : decode cX0_both 23 = .ok (.aload_n 1, 1) := dk_43 (dk_at dksX0_both_0 23 rfl rfl)
theorem dX0_both_24 : decode cX0_both 24 = .ok (.aload_n 0, 1) := dk_42 (dk_at dksX0_both_1 0 rfl rfl)
theorem dX0_both_25 : decode cX0_both 25 = .ok (.invokevirtual 215, 3) := dk_182 0 215 (dk_at dksX0_both_1 1 rfl rfl)
theorem dX0_both_28 : decode cX0_both 28 = .ok (.invokespecial 212, 3) := dk_183 0 212 (dk_at dksX0_both_1 4 rfl rfl)
theorem dX0_both_31 : decode cX0_both 31 = .ok (.astore_n 1, 1) := dk_76 (dk_at dksX0_both_1 7 rfl rfl)
theorem dX0_both_32 : decode cX0_both 32 = .ok (.goto (-27), 3) := dk_167 255 229 (dk_at dksX0_both_1 8 rfl rfl)
theorem dX0_both_35 : decode cX0_both 35 = .ok (.aload_n 1, 1) := dk_43 (dk_at dksX0_both_1 11 rfl rfl)
theorem dX0_both_36 : decode cX0_both 36 = .ok (.areturn, 1) := dk_176 (dk_at dksX0_both_1 12 rfl rfl)
abbrev cX0_not : ByteArray := prog_1_method_26_code
def yX0_not : MethodName := ⟨RX0, "not", "()LBoatsCalledIn$Node;"⟩
def dkwX0_not_3 : List UInt8 := [89, 28, 43, 42, 182, 0, 226, 183, 0, 212, 76, 43, 176]
abbrev dktX0_not_3 : List UInt8 := dkwX0_not_3 ++ []
def dkwX0_not_2 : List UInt8 := [154, 0, 12, 42, 16, 61, 182, 0, 229, 153, 0, 26, 42, 180, 0, 162, 61, 42, 182, 0, 193, 187, 0, 210]
abbrev dktX0_not_2 : List UInt8 := dkwX0_not_2 ++ dktX0_not_3
def dkwX0_not_1 : List UInt8 := [181, 0, 196, 187, 0, 221, 89, 43, 3, 183, 0, 223, 176, 42, 182, 0, 226, 76, 42, 16, 60, 182, 0, 229]
abbrev dktX0_not_1 : List UInt8 := dkwX0_not_1 ++ dktX0_not_2
def dkwX0_not_0 : List UInt8 := [42, 8, 182, 0, 207, 153, 0, 32, 42, 182, 0, 218, 42, 182, 0, 215, 76, 42, 89, 180, 0, 196, 4, 100]
abbrev dktX0_not_0 : List UInt8 := dkwX0_not_0 ++ dktX0_not_1
theorem dksX0_not_0 : cX0_not.data.toList.drop 0 = dktX0_not_0 := by decide +kernel
theorem dksX0_not_1 : cX0_not.data.toList.drop 24 = dktX0_not_1 := dk_seg dksX0_not_0 24 rfl rfl
theorem dksX0_not_2 : cX0_not.data.toList.drop 48 = dktX0_not_2 := dk_seg dksX0_not_1 24 rfl rfl
theorem dksX0_not_3 : cX0_not.data.toList.drop 72 = dktX0_not_3 := dk_seg dksX0_not_2 24 rfl rfl
theorem dX0_not_0 : decode cX0_not 0 = .ok (.aload_n 0, 1) := dk_42 (dk_at dksX0_not_0 0 rfl rfl)
theorem dX0_not_1 : decode cX0_not 1 = .ok (.iconst 5, 1) := dk_8 (dk_at dksX0_not_0 1 rfl rfl)
theorem dX0_not_2 : decode cX0_not 2 = .ok (.invokevirtual 207, 3) := dk_182 0 207 (dk_at dksX0_not_0 2 rfl rfl)
theorem dX0_not_5 : decode cX0_not 5 = .ok (.ifCond .eq 32, 3) := dk_153 0 32 (dk_at dksX0_not_0 5 rfl rfl)
theorem dX0_not_8 : decode cX0_not 8 = .ok (.aload_n 0, 1) := dk_42 (dk_at dksX0_not_0 8 rfl rfl)
theorem dX0_not_9 : decode cX0_not 9 = .ok (.invokevirtual 218, 3) := dk_182 0 218 (dk_at dksX0_not_0 9 rfl rfl)
theorem dX0_not_12 : decode cX0_not 12 = .ok (.aload_n 0, 1) := dk_42 (dk_at dksX0_not_0 12 rfl rfl)
theorem dX0_not_13 : decode cX0_not 13 = .ok (.invokevirtual 215, 3) := dk_182 0 215 (dk_at dksX0_not_0 13 rfl rfl)
theorem dX0_not_16 : decode cX0_not 16 = .ok (.astore_n 1, 1) := dk_76 (dk_at dksX0_not_0 16 rfl rfl)
theorem dX0_not_17 : decode cX0_not 17 = .ok (.aload_n 0, 1) := dk_42 (dk_at dksX0_not_0 17 rfl rfl)
theorem dX0_not_18 : decode cX0_not 18 = .ok (.dup, 1) := dk_89 (dk_at dksX0_not_0 18 rfl rfl)
theorem dX0_not_19 : decode cX0_not 19 = .ok (.getfield 196, 3) := dk_180 0 196 (dk_at dksX0_not_0 19 rfl rfl)
theorem dX0_not_22 : decode cX0_not 22 = .ok (.iconst 1, 1) := dk_4 (dk_at dksX0_not_0 22 rfl rfl)
theorem dX0_not_23 : decode cX0_not 23 = .ok (.isub, 1) := dk_100 (dk_at dksX0_not_0 23 rfl rfl)
theorem dX0_not_24 : decode cX0_not 24 = .ok (.putfield 196, 3) := dk_181 0 196 (dk_at dksX0_not_1 0 rfl rfl)
theorem dX0_not_27 : decode cX0_not 27 = .ok (.new 221, 3) := dk_187 0 221 (dk_at dksX0_not_1 3 rfl rfl)
theorem dX0_not_30 : decode cX0_not 30 = .ok (.dup, 1) := dk_89 (dk_at dksX0_not_1 6 rfl rfl)
theorem dX0_not_31 : decode cX0_not 31 = .ok (.aload_n 1, 1) := dk_43 (dk_at dksX0_not_1 7 rfl rfl)
theorem dX0_not_32 : decode cX0_not 32 = .ok (.iconst 0, 1) := dk_3 (dk_at dksX0_not_1 8 rfl rfl)
theorem dX0_not_33 : decode cX0_not 33 = .ok (.invokespecial 223, 3) := dk_183 0 223 (dk_at dksX0_not_1 9 rfl rfl)
theorem dX0_not_36 : decode cX0_not 36 = .ok (.areturn, 1) := dk_176 (dk_at dksX0_not_1 12 rfl rfl)
theorem dX0_not_37 : decode cX0_not 37 = .ok (.aload_n 0, 1) := dk_42 (dk_at dksX0_not_1 13 rfl rfl)
theorem dX0_not_38 : decode cX0_not 38 = .ok (.invokevirtual 226, 3) := dk_182 0 226 (dk_at dksX0_not_1 14 rfl rfl)
theorem dX0_not_41 : decode cX0_not 41 = .ok (.astore_n 1, 1) := dk_76 (dk_at dksX0_not_1 17 rfl rfl)
theorem dX0_not_42 : decode cX0_not 42 = .ok (.aload_n 0, 1) := dk_42 (dk_at dksX0_not_1 18 rfl rfl)
theorem dX0_not_43 : decode cX0_not 43 = .ok (.bipush 60, 2) := dk_16 60 (dk_at dksX0_not_1 19 rfl rfl)
theorem dX0_not_45 : decode cX0_not 45 = .ok (.invokevirtual 229, 3) := dk_182 0 229 (dk_at dksX0_not_1 21 rfl rfl)
theorem dX0_not_48 : decode cX0_not 48 = .ok (.ifCond .ne 12, 3) := dk_154 0 12 (dk_at dksX0_not_2 0 rfl rfl)
theorem dX0_not_51 : decode cX0_not 51 = .ok (.aload_n 0, 1) := dk_42 (dk_at dksX0_not_2 3 rfl rfl)
theorem dX0_not_52 : decode cX0_not 52 = .ok (.bipush 61, 2) := dk_16 61 (dk_at dksX0_not_2 4 rfl rfl)
theorem dX0_not_54 : decode cX0_not 54 = .ok (.invokevirtual 229, 3) := dk_182 0 229 (dk_at dksX0_not_2 6 rfl rfl)
theorem dX0_not_57 : decode cX0_not 57 = .ok (.ifCond .eq 26, 3) := dk_153 0 26 (dk_at dksX0_not_2 9 rfl rfl)
theorem dX0_not_60 : decode cX0_not 60 = .ok (.aload_n 0, 1) := dk_42 (dk_at dksX0_not_2 12 rfl rfl)
theorem dX0_not_61 : decode cX0_not 61 = .ok (.getfield 162, 3) := dk_180 0 162 (dk_at dksX0_not_2 13 rfl rfl)
theorem dX0_not_64 : decode cX0_not 64 = .ok (.istore_n 2, 1) := dk_61 (dk_at dksX0_not_2 16 rfl rfl)
theorem dX0_not_65 : decode cX0_not 65 = .ok (.aload_n 0, 1) := dk_42 (dk_at dksX0_not_2 17 rfl rfl)
theorem dX0_not_66 : decode cX0_not 66 = .ok (.invokevirtual 193, 3) := dk_182 0 193 (dk_at dksX0_not_2 18 rfl rfl)
theorem dX0_not_69 : decode cX0_not 69 = .ok (.new 210, 3) := dk_187 0 210 (dk_at dksX0_not_2 21 rfl rfl)
theorem dX0_not_72 : decode cX0_not 72 = .ok (.dup, 1) := dk_89 (dk_at dksX0_not_3 0 rfl rfl)
theorem dX0_not_73 : decode cX0_not 73 = .ok (.iload_n 2, 1) := dk_28 (dk_at dksX0_not_3 1 rfl rfl)
theorem dX0_not_74 : decode cX0_not 74 = .ok (.aload_n 1, 1) := dk_43 (dk_at dksX0_not_3 2 rfl rfl)
theorem dX0_not_75 : decode cX0_not 75 = .ok (.aload_n 0, 1) := dk_42 (dk_at dksX0_not_3 3 rfl rfl)
theorem dX0_not_76 : decode cX0_not 76 = .ok (.invokevirtual 226, 3) := dk_182 0 226 (dk_at dksX0_not_3 4 rfl rfl)
theorem dX0_not_79 : decode cX0_not 79 = .ok (.invokespecial 212, 3) := dk_183 0 212 (dk_at dksX0_not_3 7 rfl rfl)
theorem dX0_not_82 : decode cX0_not 82 = .ok (.astore_n 1, 1) := dk_76 (dk_at dksX0_not_3 10 rfl rfl)
theorem dX0_not_83 : decode cX0_not 83 = .ok (.aload_n 1, 1) := dk_43 (dk_at dksX0_not_3 11 rfl rfl)
theorem dX0_not_84 : decode cX0_not 84 = .ok (.areturn, 1) := dk_176 (dk_at dksX0_not_3 12 rfl rfl)
abbrev cX0_openOne : ByteArray := prog_1_method_23_code
def yX0_openOne : MethodName := ⟨RX0, "openOne", "()V"⟩
def dkwX0_openOne_1 : List UInt8 := [181, 0, 196, 177]
abbrev dktX0_openOne_1 : List UInt8 := dkwX0_openOne_1 ++ []
def dkwX0_openOne_0 : List UInt8 := [42, 42, 180, 0, 196, 8, 162, 0, 7, 4, 167, 0, 4, 3, 182, 0, 199, 42, 89, 180, 0, 196, 4, 96]
abbrev dktX0_openOne_0 : List UInt8 := dkwX0_openOne_0 ++ dktX0_openOne_1
theorem dksX0_openOne_0 : cX0_openOne.data.toList.drop 0 = dktX0_openOne_0 := by decide +kernel
theorem dksX0_openOne_1 : cX0_openOne.data.toList.drop 24 = dktX0_openOne_1 := dk_seg dksX0_openOne_0 24 rfl rfl
theorem dX0_openOne_0 : decode cX0_openOne 0 = .ok (.aload_n 0, 1) := dk_42 (dk_at dksX0_openOne_0 0 rfl rfl)
theorem dX0_openOne_1 : decode cX0_openOne 1 = .ok (.aload_n 0, 1) := dk_42 (dk_at dksX0_openOne_0 1 rfl rfl)
theorem dX0_openOne_2 : decode cX0_openOne 2 = .ok (.getfield 196, 3) := dk_180 0 196 (dk_at dksX0_openOne_0 2 rfl rfl)
theorem dX0_openOne_5 : decode cX0_openOne 5 = .ok (.iconst 5, 1) := dk_8 (dk_at dksX0_openOne_0 5 rfl rfl)
theorem dX0_openOne_6 : decode cX0_openOne 6 = .ok (.if_icmp .ge 7, 3) := dk_162 0 7 (dk_at dksX0_openOne_0 6 rfl rfl)
theorem dX0_openOne_9 : decode cX0_openOne 9 = .ok (.iconst 1, 1) := dk_4 (dk_at dksX0_openOne_0 9 rfl rfl)
theorem dX0_openOne_10 : decode cX0_openOne 10 = .ok (.goto 4, 3) := dk_167 0 4 (dk_at dksX0_openOne_0 10 rfl rfl)
theorem dX0_openOne_13 : decode cX0_openOne 13 = .ok (.iconst 0, 1) := dk_3 (dk_at dksX0_openOne_0 13 rfl rfl)
theorem dX0_openOne_14 : decode cX0_openOne 14 = .ok (.invokevirtual 199, 3) := dk_182 0 199 (dk_at dksX0_openOne_0 14 rfl rfl)
theorem dX0_openOne_17 : decode cX0_openOne 17 = .ok (.aload_n 0, 1) := dk_42 (dk_at dksX0_openOne_0 17 rfl rfl)
theorem dX0_openOne_18 : decode cX0_openOne 18 = .ok (.dup, 1) := dk_89 (dk_at dksX0_openOne_0 18 rfl rfl)
theorem dX0_openOne_19 : decode cX0_openOne 19 = .ok (.getfield 196, 3) := dk_180 0 196 (dk_at dksX0_openOne_0 19 rfl rfl)
theorem dX0_openOne_22 : decode cX0_openOne 22 = .ok (.iconst 1, 1) := dk_4 (dk_at dksX0_openOne_0 22 rfl rfl)
theorem dX0_openOne_23 : decode cX0_openOne 23 = .ok (.iadd, 1) := dk_96 (dk_at dksX0_openOne_0 23 rfl rfl)
theorem dX0_openOne_24 : decode cX0_openOne 24 = .ok (.putfield 196, 3) := dk_181 0 196 (dk_at dksX0_openOne_1 0 rfl rfl)
theorem dX0_openOne_27 : decode cX0_openOne 27 = .ok (.return_, 1) := dk_177 (dk_at dksX0_openOne_1 3 rfl rfl)
abbrev cX0_plus : ByteArray := prog_1_method_27_code
def yX0_plus : MethodName := ⟨RX0, "plus", "()LBoatsCalledIn$Node;"⟩
def dkwX0_plus_2 : List UInt8 := [167, 255, 215, 43, 176]
abbrev dktX0_plus_2 : List UInt8 := dkwX0_plus_2 ++ []
def dkwX0_plus_1 : List UInt8 := [180, 0, 162, 61, 42, 182, 0, 193, 187, 0, 210, 89, 28, 43, 42, 182, 0, 232, 183, 0, 212, 76]
abbrev dktX0_plus_1 : List UInt8 := dkwX0_plus_1 ++ dktX0_plus_2
def dkwX0_plus_0 : List UInt8 := [42, 182, 0, 232, 76, 42, 16, 43, 182, 0, 229, 154, 0, 12, 42, 16, 45, 182, 0, 229, 153, 0, 29, 42]
abbrev dktX0_plus_0 : List UInt8 := dkwX0_plus_0 ++ dktX0_plus_1
theorem dksX0_plus_0 : cX0_plus.data.toList.drop 0 = dktX0_plus_0 := by decide +kernel
theorem dksX0_plus_1 : cX0_plus.data.toList.drop 24 = dktX0_plus_1 := dk_seg dksX0_plus_0 24 rfl rfl
theorem dksX0_plus_2 : cX0_plus.data.toList.drop 46 = dktX0_plus_2 := dk_seg dksX0_plus_1 22 rfl rfl
theorem dX0_plus_0 : decode cX0_plus 0 = .ok (.aload_n 0, 1) := dk_42 (dk_at dksX0_plus_0 0 rfl rfl)
theorem dX0_plus_1 : decode cX0_plus 1 = .ok (.invokevirtual 232, 3) := dk_182 0 232 (dk_at dksX0_plus_0 1 rfl rfl)
theorem dX0_plus_4 : decode cX0_plus 4 = .ok (.astore_n 1, 1) := dk_76 (dk_at dksX0_plus_0 4 rfl rfl)
theorem dX0_plus_5 : decode cX0_plus 5 = .ok (.aload_n 0, 1) := dk_42 (dk_at dksX0_plus_0 5 rfl rfl)
theorem dX0_plus_6 : decode cX0_plus 6 = .ok (.bipush 43, 2) := dk_16 43 (dk_at dksX0_plus_0 6 rfl rfl)
theorem dX0_plus_8 : decode cX0_plus 8 = .ok (.invokevirtual 229, 3) := dk_182 0 229 (dk_at dksX0_plus_0 8 rfl rfl)
theorem dX0_plus_11 : decode cX0_plus 11 = .ok (.ifCond .ne 12, 3) := dk_154 0 12 (dk_at dksX0_plus_0 11 rfl rfl)
theorem dX0_plus_14 : decode cX0_plus 14 = .ok (.aload_n 0, 1) := dk_42 (dk_at dksX0_plus_0 14 rfl rfl)
theorem dX0_plus_15 : decode cX0_plus 15 = .ok (.bipush 45, 2) := dk_16 45 (dk_at dksX0_plus_0 15 rfl rfl)
theorem dX0_plus_17 : decode cX0_plus 17 = .ok (.invokevirtual 229, 3) := dk_182 0 229 (dk_at dksX0_plus_0 17 rfl rfl)
theorem dX0_plus_20 : decode cX0_plus 20 = .ok (.ifCond .eq 29, 3) := dk_153 0 29 (dk_at dksX0_plus_0 20 rfl rfl)
theorem dX0_plus_23 : decode cX0_plus 23 = .ok (.aload_n 0, 1) := dk_42 (dk_at dksX0_plus_0 23 rfl rfl)
theorem dX0_plus_24 : decode cX0_plus 24 = .ok (.getfield 162, 3) := dk_180 0 162 (dk_at dksX0_plus_1 0 rfl rfl)
theorem dX0_plus_27 : decode cX0_plus 27 = .ok (.istore_n 2, 1) := dk_61 (dk_at dksX0_plus_1 3 rfl rfl)
theorem dX0_plus_28 : decode cX0_plus 28 = .ok (.aload_n 0, 1) := dk_42 (dk_at dksX0_plus_1 4 rfl rfl)
theorem dX0_plus_29 : decode cX0_plus 29 = .ok (.invokevirtual 193, 3) := dk_182 0 193 (dk_at dksX0_plus_1 5 rfl rfl)
theorem dX0_plus_32 : decode cX0_plus 32 = .ok (.new 210, 3) := dk_187 0 210 (dk_at dksX0_plus_1 8 rfl rfl)
theorem dX0_plus_35 : decode cX0_plus 35 = .ok (.dup, 1) := dk_89 (dk_at dksX0_plus_1 11 rfl rfl)
theorem dX0_plus_36 : decode cX0_plus 36 = .ok (.iload_n 2, 1) := dk_28 (dk_at dksX0_plus_1 12 rfl rfl)
theorem dX0_plus_37 : decode cX0_plus 37 = .ok (.aload_n 1, 1) := dk_43 (dk_at dksX0_plus_1 13 rfl rfl)
theorem dX0_plus_38 : decode cX0_plus 38 = .ok (.aload_n 0, 1) := dk_42 (dk_at dksX0_plus_1 14 rfl rfl)
theorem dX0_plus_39 : decode cX0_plus 39 = .ok (.invokevirtual 232, 3) := dk_182 0 232 (dk_at dksX0_plus_1 15 rfl rfl)
theorem dX0_plus_42 : decode cX0_plus 42 = .ok (.invokespecial 212, 3) := dk_183 0 212 (dk_at dksX0_plus_1 18 rfl rfl)
theorem dX0_plus_45 : decode cX0_plus 45 = .ok (.astore_n 1, 1) := dk_76 (dk_at dksX0_plus_1 21 rfl rfl)
theorem dX0_plus_46 : decode cX0_plus 46 = .ok (.goto (-41), 3) := dk_167 255 215 (dk_at dksX0_plus_2 0 rfl rfl)
theorem dX0_plus_49 : decode cX0_plus 49 = .ok (.aload_n 1, 1) := dk_43 (dk_at dksX0_plus_2 3 rfl rfl)
theorem dX0_plus_50 : decode cX0_plus 50 = .ok (.areturn, 1) := dk_176 (dk_at dksX0_plus_2 4 rfl rfl)
abbrev cX0_times : ByteArray := prog_1_method_28_code
def yX0_times : MethodName := ⟨RX0, "times", "()LBoatsCalledIn$Node;"⟩
def dkwX0_times_1 : List UInt8 := [43, 42, 182, 0, 235, 183, 0, 212, 76, 167, 255, 228, 43, 176]
abbrev dktX0_times_1 : List UInt8 := dkwX0_times_1 ++ []
def dkwX0_times_0 : List UInt8 := [42, 182, 0, 235, 76, 42, 16, 42, 182, 0, 229, 153, 0, 25, 42, 182, 0, 193, 187, 0, 210, 89, 16, 42]
abbrev dktX0_times_0 : List UInt8 := dkwX0_times_0 ++ dktX0_times_1
theorem dksX0_times_0 : cX0_times.data.toList.drop 0 = dktX0_times_0 := by decide +kernel
theorem dksX0_times_1 : cX0_times.data.toList.drop 24 = dktX0_times_1 := dk_seg dksX0_times_0 24 rfl rfl
theorem dX0_times_0 : decode cX0_times 0 = .ok (.aload_n 0, 1) := dk_42 (dk_at dksX0_times_0 0 rfl rfl)
theorem dX0_times_1 : decode cX0_times 1 = .ok (.invokevirtual 235, 3) := dk_182 0 235 (dk_at dksX0_times_0 1 rfl rfl)
theorem dX0_times_4 : decode cX0_times 4 = .ok (.astore_n 1, 1) := dk_76 (dk_at dksX0_times_0 4 rfl rfl)
theorem dX0_times_5 : decode cX0_times 5 = .ok (.aload_n 0, 1) := dk_42 (dk_at dksX0_times_0 5 rfl rfl)
theorem dX0_times_6 : decode cX0_times 6 = .ok (.bipush 42, 2) := dk_16 42 (dk_at dksX0_times_0 6 rfl rfl)
theorem dX0_times_8 : decode cX0_times 8 = .ok (.invokevirtual 229, 3) := dk_182 0 229 (dk_at dksX0_times_0 8 rfl rfl)
theorem dX0_times_11 : decode cX0_times 11 = .ok (.ifCond .eq 25, 3) := dk_153 0 25 (dk_at dksX0_times_0 11 rfl rfl)
theorem dX0_times_14 : decode cX0_times 14 = .ok (.aload_n 0, 1) := dk_42 (dk_at dksX0_times_0 14 rfl rfl)
theorem dX0_times_15 : decode cX0_times 15 = .ok (.invokevirtual 193, 3) := dk_182 0 193 (dk_at dksX0_times_0 15 rfl rfl)
theorem dX0_times_18 : decode cX0_times 18 = .ok (.new 210, 3) := dk_187 0 210 (dk_at dksX0_times_0 18 rfl rfl)
theorem dX0_times_21 : decode cX0_times 21 = .ok (.dup, 1) := dk_89 (dk_at dksX0_times_0 21 rfl rfl)
theorem dX0_times_22 : decode cX0_times 22 = .ok (.bipush 42, 2) := dk_16 42 (dk_at dksX0_times_0 22 rfl rfl)
theorem dX0_times_24 : decode cX0_times 24 = .ok (.aload_n 1, 1) := dk_43 (dk_at dksX0_times_1 0 rfl rfl)
theorem dX0_times_25 : decode cX0_times 25 = .ok (.aload_n 0, 1) := dk_42 (dk_at dksX0_times_1 1 rfl rfl)
theorem dX0_times_26 : decode cX0_times 26 = .ok (.invokevirtual 235, 3) := dk_182 0 235 (dk_at dksX0_times_1 2 rfl rfl)
theorem dX0_times_29 : decode cX0_times 29 = .ok (.invokespecial 212, 3) := dk_183 0 212 (dk_at dksX0_times_1 5 rfl rfl)
theorem dX0_times_32 : decode cX0_times 32 = .ok (.astore_n 1, 1) := dk_76 (dk_at dksX0_times_1 8 rfl rfl)
theorem dX0_times_33 : decode cX0_times 33 = .ok (.goto (-28), 3) := dk_167 255 228 (dk_at dksX0_times_1 9 rfl rfl)
theorem dX0_times_36 : decode cX0_times 36 = .ok (.aload_n 1, 1) := dk_43 (dk_at dksX0_times_1 12 rfl rfl)
theorem dX0_times_37 : decode cX0_times 37 = .ok (.areturn, 1) := dk_176 (dk_at dksX0_times_1 13 rfl rfl)
abbrev cX0_one : ByteArray := prog_1_method_29_code
def yX0_one : MethodName := ⟨RX0, "one", "()LBoatsCalledIn$Node;"⟩
def dkwX0_one_5 : List UInt8 := [154, 0, 8, 42, 180, 0, 172, 191, 42, 89, 180, 0, 196, 4, 100, 181, 0, 196, 42, 182, 0, 193, 44, 176]
abbrev dktX0_one_5 : List UInt8 := dkwX0_one_5 ++ []
def dkwX0_one_4 : List UInt8 := [154, 0, 8, 42, 180, 0, 172, 191, 42, 182, 0, 218, 42, 182, 0, 246, 77, 42, 16, 41, 182, 0, 229]
abbrev dktX0_one_4 : List UInt8 := dkwX0_one_4 ++ dktX0_one_5
def dkwX0_one_3 : List UInt8 := [180, 0, 196, 4, 100, 181, 0, 196, 187, 0, 221, 89, 44, 4, 183, 0, 223, 176, 42, 16, 40, 182, 0, 229]
abbrev dktX0_one_3 : List UInt8 := dkwX0_one_3 ++ dktX0_one_4
def dkwX0_one_2 : List UInt8 := [183, 0, 243, 176, 42, 16, 45, 182, 0, 229, 153, 0, 32, 42, 182, 0, 218, 42, 182, 0, 235, 77, 42, 89]
abbrev dktX0_one_2 : List UInt8 := dkwX0_one_2 ++ dktX0_one_3
def dkwX0_one_1 : List UInt8 := [183, 0, 240, 176, 42, 180, 0, 146, 5, 160, 0, 17, 42, 182, 0, 193, 187, 0, 241, 89, 42, 27]
abbrev dktX0_one_1 : List UInt8 := dkwX0_one_1 ++ dktX0_one_2
def dkwX0_one_0 : List UInt8 := [42, 180, 0, 162, 60, 42, 180, 0, 146, 6, 160, 0, 16, 42, 182, 0, 193, 187, 0, 238, 89, 27]
abbrev dktX0_one_0 : List UInt8 := dkwX0_one_0 ++ dktX0_one_1
theorem dksX0_one_0 : cX0_one.data.toList.drop 0 = dktX0_one_0 := by decide +kernel
theorem dksX0_one_1 : cX0_one.data.toList.drop 22 = dktX0_one_1 := dk_seg dksX0_one_0 22 rfl rfl
theorem dksX0_one_2 : cX0_one.data.toList.drop 44 = dktX0_one_2 := dk_seg dksX0_one_1 22 rfl rfl
theorem dksX0_one_3 : cX0_one.data.toList.drop 68 = dktX0_one_3 := dk_seg dksX0_one_2 24 rfl rfl
theorem dksX0_one_4 : cX0_one.data.toList.drop 92 = dktX0_one_4 := dk_seg dksX0_one_3 24 rfl rfl
theorem dksX0_one_5 : cX0_one.data.toList.drop 115 = dktX0_one_5 := dk_seg dksX0_one_4 23 rfl rfl
theorem dX0_one_0 : decode cX0_one 0 = .ok (.aload_n 0, 1) := dk_42 (dk_at dksX0_one_0 0 rfl rfl)
theorem dX0_one_1 : decode cX0_one 1 = .ok (.getfield 162, 3) := dk_180 0 162 (dk_at dksX0_one_0 1 rfl rfl)
theorem dX0_one_4 : decode cX0_one 4 = .ok (.istore_n 1, 1) := dk_60 (dk_at dksX0_one_0 4 rfl rfl)
theorem dX0_one_5 : decode cX0_one 5 = .ok (.aload_n 0, 1) := dk_42 (dk_at dksX0_one_0 5 rfl rfl)
theorem dX0_one_6 : decode cX0_one 6 = .ok (.getfield 146, 3) := dk_180 0 146 (dk_at dksX0_one_0 6 rfl rfl)
theorem dX0_one_9 : decode cX0_one 9 = .ok (.iconst 3, 1) := dk_6 (dk_at dksX0_one_0 9 rfl rfl)
theorem dX0_one_10 : decode cX0_one 10 = .ok (.if_icmp .ne 16, 3) := dk_160 0 16 (dk_at dksX0_one_0 10 rfl rfl)
theorem dX0_one_13 : decode cX0_one 13 = .ok (.aload_n 0, 1) := dk_42 (dk_at dksX0_one_0 13 rfl rfl)
theorem dX0_one_14 : decode cX0_one 14 = .ok (.invokevirtual 193, 3) := dk_182 0 193 (dk_at dksX0_one_0 14 rfl rfl)
theorem dX0_one_17 : decode cX0_one 17 = .ok (.new 238, 3) := dk_187 0 238 (dk_at dksX0_one_0 17 rfl rfl)
theorem dX0_one_20 : decode cX0_one 20 = .ok (.dup, 1) := dk_89 (dk_at dksX0_one_0 20 rfl rfl)
theorem dX0_one_21 : decode cX0_one 21 = .ok (.iload_n 1, 1) := dk_27 (dk_at dksX0_one_0 21 rfl rfl)
theorem dX0_one_22 : decode cX0_one 22 = .ok (.invokespecial 240, 3) := dk_183 0 240 (dk_at dksX0_one_1 0 rfl rfl)
theorem dX0_one_25 : decode cX0_one 25 = .ok (.areturn, 1) := dk_176 (dk_at dksX0_one_1 3 rfl rfl)
theorem dX0_one_26 : decode cX0_one 26 = .ok (.aload_n 0, 1) := dk_42 (dk_at dksX0_one_1 4 rfl rfl)
theorem dX0_one_27 : decode cX0_one 27 = .ok (.getfield 146, 3) := dk_180 0 146 (dk_at dksX0_one_1 5 rfl rfl)
theorem dX0_one_30 : decode cX0_one 30 = .ok (.iconst 2, 1) := dk_5 (dk_at dksX0_one_1 8 rfl rfl)
theorem dX0_one_31 : decode cX0_one 31 = .ok (.if_icmp .ne 17, 3) := dk_160 0 17 (dk_at dksX0_one_1 9 rfl rfl)
theorem dX0_one_34 : decode cX0_one 34 = .ok (.aload_n 0, 1) := dk_42 (dk_at dksX0_one_1 12 rfl rfl)
theorem dX0_one_35 : decode cX0_one 35 = .ok (.invokevirtual 193, 3) := dk_182 0 193 (dk_at dksX0_one_1 13 rfl rfl)
theorem dX0_one_38 : decode cX0_one 38 = .ok (.new 241, 3) := dk_187 0 241 (dk_at dksX0_one_1 16 rfl rfl)
theorem dX0_one_41 : decode cX0_one 41 = .ok (.dup, 1) := dk_89 (dk_at dksX0_one_1 19 rfl rfl)
theorem dX0_one_42 : decode cX0_one 42 = .ok (.aload_n 0, 1) := dk_42 (dk_at dksX0_one_1 20 rfl rfl)
theorem dX0_one_43 : decode cX0_one 43 = .ok (.iload_n 1, 1) := dk_27 (dk_at dksX0_one_1 21 rfl rfl)
theorem dX0_one_44 : decode cX0_one 44 = .ok (.invokespecial 243, 3) := dk_183 0 243 (dk_at dksX0_one_2 0 rfl rfl)
theorem dX0_one_47 : decode cX0_one 47 = .ok (.areturn, 1) := dk_176 (dk_at dksX0_one_2 3 rfl rfl)
theorem dX0_one_48 : decode cX0_one 48 = .ok (.aload_n 0, 1) := dk_42 (dk_at dksX0_one_2 4 rfl rfl)
theorem dX0_one_49 : decode cX0_one 49 = .ok (.bipush 45, 2) := dk_16 45 (dk_at dksX0_one_2 5 rfl rfl)
theorem dX0_one_51 : decode cX0_one 51 = .ok (.invokevirtual 229, 3) := dk_182 0 229 (dk_at dksX0_one_2 7 rfl rfl)
theorem dX0_one_54 : decode cX0_one 54 = .ok (.ifCond .eq 32, 3) := dk_153 0 32 (dk_at dksX0_one_2 10 rfl rfl)
theorem dX0_one_57 : decode cX0_one 57 = .ok (.aload_n 0, 1) := dk_42 (dk_at dksX0_one_2 13 rfl rfl)
theorem dX0_one_58 : decode cX0_one 58 = .ok (.invokevirtual 218, 3) := dk_182 0 218 (dk_at dksX0_one_2 14 rfl rfl)
theorem dX0_one_61 : decode cX0_one 61 = .ok (.aload_n 0, 1) := dk_42 (dk_at dksX0_one_2 17 rfl rfl)
theorem dX0_one_62 : decode cX0_one 62 = .ok (.invokevirtual 235, 3) := dk_182 0 235 (dk_at dksX0_one_2 18 rfl rfl)
theorem dX0_one_65 : decode cX0_one 65 = .ok (.astore_n 2, 1) := dk_77 (dk_at dksX0_one_2 21 rfl rfl)
theorem dX0_one_66 : decode cX0_one 66 = .ok (.aload_n 0, 1) := dk_42 (dk_at dksX0_one_2 22 rfl rfl)
theorem dX0_one_67 : decode cX0_one 67 = .ok (.dup, 1) := dk_89 (dk_at dksX0_one_2 23 rfl rfl)
theorem dX0_one_68 : decode cX0_one 68 = .ok (.getfield 196, 3) := dk_180 0 196 (dk_at dksX0_one_3 0 rfl rfl)
theorem dX0_one_71 : decode cX0_one 71 = .ok (.iconst 1, 1) := dk_4 (dk_at dksX0_one_3 3 rfl rfl)
theorem dX0_one_72 : decode cX0_one 72 = .ok (.isub, 1) := dk_100 (dk_at dksX0_one_3 4 rfl rfl)
theorem dX0_one_73 : decode cX0_one 73 = .ok (.putfield 196, 3) := dk_181 0 196 (dk_at dksX0_one_3 5 rfl rfl)
theorem dX0_one_76 : decode cX0_one 76 = .ok (.new 221, 3) := dk_187 0 221 (dk_at dksX0_one_3 8 rfl rfl)
theorem dX0_one_79 : decode cX0_one 79 = .ok (.dup, 1) := dk_89 (dk_at dksX0_one_3 11 rfl rfl)
theorem dX0_one_80 : decode cX0_one 80 = .ok (.aload_n 2, 1) := dk_44 (dk_at dksX0_one_3 12 rfl rfl)
theorem dX0_one_81 : decode cX0_one 81 = .ok (.iconst 1, 1) := dk_4 (dk_at dksX0_one_3 13 rfl rfl)
theorem dX0_one_82 : decode cX0_one 82 = .ok (.invokespecial 223, 3) := dk_183 0 223 (dk_at dksX0_one_3 14 rfl rfl)
theorem dX0_one_85 : decode cX0_one 85 = .ok (.areturn, 1) := dk_176 (dk_at dksX0_one_3 17 rfl rfl)
theorem dX0_one_86 : decode cX0_one 86 = .ok (.aload_n 0, 1) := dk_42 (dk_at dksX0_one_3 18 rfl rfl)
theorem dX0_one_87 : decode cX0_one 87 = .ok (.bipush 40, 2) := dk_16 40 (dk_at dksX0_one_3 19 rfl rfl)
theorem dX0_one_89 : decode cX0_one 89 = .ok (.invokevirtual 229, 3) := dk_182 0 229 (dk_at dksX0_one_3 21 rfl rfl)
theorem dX0_one_92 : decode cX0_one 92 = .ok (.ifCond .ne 8, 3) := dk_154 0 8 (dk_at dksX0_one_4 0 rfl rfl)
theorem dX0_one_95 : decode cX0_one 95 = .ok (.aload_n 0, 1) := dk_42 (dk_at dksX0_one_4 3 rfl rfl)
theorem dX0_one_96 : decode cX0_one 96 = .ok (.getfield 172, 3) := dk_180 0 172 (dk_at dksX0_one_4 4 rfl rfl)
theorem dX0_one_99 : decode cX0_one 99 = .ok (.athrow, 1) := dk_191 (dk_at dksX0_one_4 7 rfl rfl)
theorem dX0_one_100 : decode cX0_one 100 = .ok (.aload_n 0, 1) := dk_42 (dk_at dksX0_one_4 8 rfl rfl)
theorem dX0_one_101 : decode cX0_one 101 = .ok (.invokevirtual 218, 3) := dk_182 0 218 (dk_at dksX0_one_4 9 rfl rfl)
theorem dX0_one_104 : decode cX0_one 104 = .ok (.aload_n 0, 1) := dk_42 (dk_at dksX0_one_4 12 rfl rfl)
theorem dX0_one_105 : decode cX0_one 105 = .ok (.invokevirtual 246, 3) := dk_182 0 246 (dk_at dksX0_one_4 13 rfl rfl)
theorem dX0_one_108 : decode cX0_one 108 = .ok (.astore_n 2, 1) := dk_77 (dk_at dksX0_one_4 16 rfl rfl)
theorem dX0_one_109 : decode cX0_one 109 = .ok (.aload_n 0, 1) := dk_42 (dk_at dksX0_one_4 17 rfl rfl)
theorem dX0_one_110 : decode cX0_one 110 = .ok (.bipush 41, 2) := dk_16 41 (dk_at dksX0_one_4 18 rfl rfl)
theorem dX0_one_112 : decode cX0_one 112 = .ok (.invokevirtual 229, 3) := dk_182 0 229 (dk_at dksX0_one_4 20 rfl rfl)
theorem dX0_one_115 : decode cX0_one 115 = .ok (.ifCond .ne 8, 3) := dk_154 0 8 (dk_at dksX0_one_5 0 rfl rfl)
theorem dX0_one_118 : decode cX0_one 118 = .ok (.aload_n 0, 1) := dk_42 (dk_at dksX0_one_5 3 rfl rfl)
theorem dX0_one_119 : decode cX0_one 119 = .ok (.getfield 172, 3) := dk_180 0 172 (dk_at dksX0_one_5 4 rfl rfl)
theorem dX0_one_122 : decode cX0_one 122 = .ok (.athrow, 1) := dk_191 (dk_at dksX0_one_5 7 rfl rfl)
theorem dX0_one_123 : decode cX0_one 123 = .ok (.aload_n 0, 1) := dk_42 (dk_at dksX0_one_5 8 rfl rfl)
theorem dX0_one_124 : decode cX0_one 124 = .ok (.dup, 1) := dk_89 (dk_at dksX0_one_5 9 rfl rfl)
theorem dX0_one_125 : decode cX0_one 125 = .ok (.getfield 196, 3) := dk_180 0 196 (dk_at dksX0_one_5 10 rfl rfl)
theorem dX0_one_128 : decode cX0_one 128 = .ok (.iconst 1, 1) := dk_4 (dk_at dksX0_one_5 13 rfl rfl)
theorem dX0_one_129 : decode cX0_one 129 = .ok (.isub, 1) := dk_100 (dk_at dksX0_one_5 14 rfl rfl)
theorem dX0_one_130 : decode cX0_one 130 = .ok (.putfield 196, 3) := dk_181 0 196 (dk_at dksX0_one_5 15 rfl rfl)
theorem dX0_one_133 : decode cX0_one 133 = .ok (.aload_n 0, 1) := dk_42 (dk_at dksX0_one_5 18 rfl rfl)
theorem dX0_one_134 : decode cX0_one 134 = .ok (.invokevirtual 193, 3) := dk_182 0 193 (dk_at dksX0_one_5 19 rfl rfl)
theorem dX0_one_137 : decode cX0_one 137 = .ok (.aload_n 2, 1) := dk_44 (dk_at dksX0_one_5 22 rfl rfl)
theorem dX0_one_138 : decode cX0_one 138 = .ok (.areturn, 1) := dk_176 (dk_at dksX0_one_5 23 rfl rfl)
abbrev cX0_isSign : ByteArray := prog_1_method_20_code
def yX0_isSign : MethodName := ⟨RX0, "isSign", "(I)Z"⟩
def dkwX0_isSign_0 : List UInt8 := [42, 180, 0, 146, 7, 160, 0, 15, 42, 180, 0, 162, 27, 160, 0, 7, 4, 167, 0, 4, 3, 172]
abbrev dktX0_isSign_0 : List UInt8 := dkwX0_isSign_0 ++ []
theorem dksX0_isSign_0 : cX0_isSign.data.toList.drop 0 = dktX0_isSign_0 := by decide +kernel
theorem dX0_isSign_0 : decode cX0_isSign 0 = .ok (.aload_n 0, 1) := dk_42 (dk_at dksX0_isSign_0 0 rfl rfl)
theorem dX0_isSign_1 : decode cX0_isSign 1 = .ok (.getfield 146, 3) := dk_180 0 146 (dk_at dksX0_isSign_0 1 rfl rfl)
theorem dX0_isSign_4 : decode cX0_isSign 4 = .ok (.iconst 4, 1) := dk_7 (dk_at dksX0_isSign_0 4 rfl rfl)
theorem dX0_isSign_5 : decode cX0_isSign 5 = .ok (.if_icmp .ne 15, 3) := dk_160 0 15 (dk_at dksX0_isSign_0 5 rfl rfl)
theorem dX0_isSign_8 : decode cX0_isSign 8 = .ok (.aload_n 0, 1) := dk_42 (dk_at dksX0_isSign_0 8 rfl rfl)
theorem dX0_isSign_9 : decode cX0_isSign 9 = .ok (.getfield 162, 3) := dk_180 0 162 (dk_at dksX0_isSign_0 9 rfl rfl)
theorem dX0_isSign_12 : decode cX0_isSign 12 = .ok (.iload_n 1, 1) := dk_27 (dk_at dksX0_isSign_0 12 rfl rfl)
theorem dX0_isSign_13 : decode cX0_isSign 13 = .ok (.if_icmp .ne 7, 3) := dk_160 0 7 (dk_at dksX0_isSign_0 13 rfl rfl)
theorem dX0_isSign_16 : decode cX0_isSign 16 = .ok (.iconst 1, 1) := dk_4 (dk_at dksX0_isSign_0 16 rfl rfl)
theorem dX0_isSign_17 : decode cX0_isSign 17 = .ok (.goto 4, 3) := dk_167 0 4 (dk_at dksX0_isSign_0 17 rfl rfl)
theorem dX0_isSign_20 : decode cX0_isSign 20 = .ok (.iconst 0, 1) := dk_3 (dk_at dksX0_isSign_0 20 rfl rfl)
theorem dX0_isSign_21 : decode cX0_isSign 21 = .ok (.ireturn, 1) := dk_172 (dk_at dksX0_isSign_0 21 rfl rfl)
abbrev cX0_init : ByteArray := prog_1_method_35_code
def yX0_init : MethodName := ⟨RX0, "<init>", "()V"⟩
def dkwX0_init_13 : List UInt8 := [177]
abbrev dktX0_init_13 : List UInt8 := dkwX0_init_13 ++ []
def dkwX0_init_12 : List UInt8 := [183, 1, 63, 83, 89, 6, 187, 1, 61, 89, 183, 1, 63, 83, 181, 1, 64, 42, 19, 1, 68, 182, 1, 70]
abbrev dktX0_init_12 : List UInt8 := dkwX0_init_12 ++ dktX0_init_13
def dkwX0_init_11 : List UInt8 := [187, 1, 61, 89, 183, 1, 63, 83, 89, 4, 187, 1, 61, 89, 183, 1, 63, 83, 89, 5, 187, 1, 61, 89]
abbrev dktX0_init_11 : List UInt8 := dkwX0_init_11 ++ dktX0_init_12
def dkwX0_init_10 : List UInt8 := [181, 1, 52, 42, 8, 188, 10, 181, 1, 55, 42, 7, 188, 10, 181, 1, 58, 42, 7, 189, 1, 61, 89, 3]
abbrev dktX0_init_10 : List UInt8 := dkwX0_init_10 ++ dktX0_init_11
def dkwX0_init_9 : List UInt8 := [188, 10, 181, 1, 44, 42, 16, 7, 188, 10, 181, 1, 47, 42, 16, 6, 16, 7, 197, 1, 50, 2]
abbrev dktX0_init_9 : List UInt8 := dkwX0_init_9 ++ dktX0_init_10
def dkwX0_init_8 : List UInt8 := [181, 0, 190, 42, 17, 0, 160, 188, 8, 181, 0, 125, 42, 16, 7, 188, 10, 181, 1, 41, 42, 16, 7]
abbrev dktX0_init_8 : List UInt8 := dkwX0_init_8 ++ dktX0_init_9
def dkwX0_init_7 : List UInt8 := [19, 1, 34, 83, 89, 6, 19, 1, 36, 83, 89, 7, 19, 1, 38, 83, 89, 8, 19, 1, 40, 83]
abbrev dktX0_init_7 : List UInt8 := dkwX0_init_7 ++ dktX0_init_8
def dkwX0_init_6 : List UInt8 := [181, 0, 182, 42, 16, 6, 189, 0, 168, 89, 3, 19, 1, 30, 83, 89, 4, 19, 1, 32, 83, 89, 5]
abbrev dktX0_init_6 : List UInt8 := dkwX0_init_6 ++ dktX0_init_7
def dkwX0_init_5 : List UInt8 := [89, 5, 19, 1, 23, 83, 89, 6, 19, 1, 25, 83, 89, 7, 19, 1, 27, 83, 89, 8, 19, 1, 29, 83]
abbrev dktX0_init_5 : List UInt8 := dkwX0_init_5 ++ dktX0_init_6
def dkwX0_init_4 : List UInt8 := [189, 1, 17, 181, 1, 0, 42, 16, 6, 189, 0, 168, 89, 3, 19, 1, 19, 83, 89, 4, 19, 1, 21, 83]
abbrev dktX0_init_4 : List UInt8 := dkwX0_init_4 ++ dktX0_init_5
def dkwX0_init_3 : List UInt8 := [4, 79, 89, 7, 3, 79, 181, 0, 98, 42, 187, 0, 254, 89, 183, 1, 16, 181, 0, 172, 42, 16, 6]
abbrev dktX0_init_3 : List UInt8 := dkwX0_init_3 ++ dktX0_init_4
def dkwX0_init_2 : List UInt8 := [188, 10, 181, 0, 69, 42, 8, 188, 10, 89, 3, 16, 27, 79, 89, 4, 3, 79, 89, 5, 5, 79, 89, 6]
abbrev dktX0_init_2 : List UInt8 := dkwX0_init_2 ++ dktX0_init_3
def dkwX0_init_1 : List UInt8 := [188, 10, 181, 0, 60, 42, 16, 7, 188, 10, 181, 0, 63, 42, 16, 7, 188, 10, 181, 0, 66, 42, 16, 7]
abbrev dktX0_init_1 : List UInt8 := dkwX0_init_1 ++ dktX0_init_2
def dkwX0_init_0 : List UInt8 := [42, 183, 1, 12, 42, 16, 7, 189, 0, 37, 181, 0, 48, 42, 16, 7, 188, 10, 181, 0, 56, 42, 16, 7]
abbrev dktX0_init_0 : List UInt8 := dkwX0_init_0 ++ dktX0_init_1
theorem dksX0_init_0 : cX0_init.data.toList.drop 0 = dktX0_init_0 := by decide +kernel
theorem dksX0_init_1 : cX0_init.data.toList.drop 24 = dktX0_init_1 := dk_seg dksX0_init_0 24 rfl rfl
theorem dksX0_init_2 : cX0_init.data.toList.drop 48 = dktX0_init_2 := dk_seg dksX0_init_1 24 rfl rfl
theorem dksX0_init_3 : cX0_init.data.toList.drop 72 = dktX0_init_3 := dk_seg dksX0_init_2 24 rfl rfl
theorem dksX0_init_4 : cX0_init.data.toList.drop 95 = dktX0_init_4 := dk_seg dksX0_init_3 23 rfl rfl
theorem dksX0_init_5 : cX0_init.data.toList.drop 119 = dktX0_init_5 := dk_seg dksX0_init_4 24 rfl rfl
theorem dksX0_init_6 : cX0_init.data.toList.drop 143 = dktX0_init_6 := dk_seg dksX0_init_5 24 rfl rfl
theorem dksX0_init_7 : cX0_init.data.toList.drop 166 = dktX0_init_7 := dk_seg dksX0_init_6 23 rfl rfl
theorem dksX0_init_8 : cX0_init.data.toList.drop 188 = dktX0_init_8 := dk_seg dksX0_init_7 22 rfl rfl
theorem dksX0_init_9 : cX0_init.data.toList.drop 211 = dktX0_init_9 := dk_seg dksX0_init_8 23 rfl rfl
theorem dksX0_init_10 : cX0_init.data.toList.drop 233 = dktX0_init_10 := dk_seg dksX0_init_9 22 rfl rfl
theorem dksX0_init_11 : cX0_init.data.toList.drop 257 = dktX0_init_11 := dk_seg dksX0_init_10 24 rfl rfl
theorem dksX0_init_12 : cX0_init.data.toList.drop 281 = dktX0_init_12 := dk_seg dksX0_init_11 24 rfl rfl
theorem dksX0_init_13 : cX0_init.data.toList.drop 305 = dktX0_init_13 := dk_seg dksX0_init_12 24 rfl rfl
theorem dX0_init_0 : decode cX0_init 0 = .ok (.aload_n 0, 1) := dk_42 (dk_at dksX0_init_0 0 rfl rfl)
theorem dX0_init_1 : decode cX0_init 1 = .ok (.invokespecial 268, 3) := dk_183 1 12 (dk_at dksX0_init_0 1 rfl rfl)
theorem dX0_init_4 : decode cX0_init 4 = .ok (.aload_n 0, 1) := dk_42 (dk_at dksX0_init_0 4 rfl rfl)
theorem dX0_init_5 : decode cX0_init 5 = .ok (.bipush 7, 2) := dk_16 7 (dk_at dksX0_init_0 5 rfl rfl)
theorem dX0_init_7 : decode cX0_init 7 = .ok (.anewarray 37, 3) := dk_189 0 37 (dk_at dksX0_init_0 7 rfl rfl)
theorem dX0_init_10 : decode cX0_init 10 = .ok (.putfield 48, 3) := dk_181 0 48 (dk_at dksX0_init_0 10 rfl rfl)
theorem dX0_init_13 : decode cX0_init 13 = .ok (.aload_n 0, 1) := dk_42 (dk_at dksX0_init_0 13 rfl rfl)
theorem dX0_init_14 : decode cX0_init 14 = .ok (.bipush 7, 2) := dk_16 7 (dk_at dksX0_init_0 14 rfl rfl)
theorem dX0_init_16 : decode cX0_init 16 = .ok (.newarray .int, 2) := dk_188_10 (dk_at dksX0_init_0 16 rfl rfl)
theorem dX0_init_18 : decode cX0_init 18 = .ok (.putfield 56, 3) := dk_181 0 56 (dk_at dksX0_init_0 18 rfl rfl)
theorem dX0_init_21 : decode cX0_init 21 = .ok (.aload_n 0, 1) := dk_42 (dk_at dksX0_init_0 21 rfl rfl)
theorem dX0_init_22 : decode cX0_init 22 = .ok (.bipush 7, 2) := dk_16 7 (dk_at dksX0_init_0 22 rfl rfl)
theorem dX0_init_24 : decode cX0_init 24 = .ok (.newarray .int, 2) := dk_188_10 (dk_at dksX0_init_1 0 rfl rfl)
theorem dX0_init_26 : decode cX0_init 26 = .ok (.putfield 60, 3) := dk_181 0 60 (dk_at dksX0_init_1 2 rfl rfl)
theorem dX0_init_29 : decode cX0_init 29 = .ok (.aload_n 0, 1) := dk_42 (dk_at dksX0_init_1 5 rfl rfl)
theorem dX0_init_30 : decode cX0_init 30 = .ok (.bipush 7, 2) := dk_16 7 (dk_at dksX0_init_1 6 rfl rfl)
theorem dX0_init_32 : decode cX0_init 32 = .ok (.newarray .int, 2) := dk_188_10 (dk_at dksX0_init_1 8 rfl rfl)
theorem dX0_init_34 : decode cX0_init 34 = .ok (.putfield 63, 3) := dk_181 0 63 (dk_at dksX0_init_1 10 rfl rfl)
theorem dX0_init_37 : decode cX0_init 37 = .ok (.aload_n 0, 1) := dk_42 (dk_at dksX0_init_1 13 rfl rfl)
theorem dX0_init_38 : decode cX0_init 38 = .ok (.bipush 7, 2) := dk_16 7 (dk_at dksX0_init_1 14 rfl rfl)
theorem dX0_init_40 : decode cX0_init 40 = .ok (.newarray .int, 2) := dk_188_10 (dk_at dksX0_init_1 16 rfl rfl)
theorem dX0_init_42 : decode cX0_init 42 = .ok (.putfield 66, 3) := dk_181 0 66 (dk_at dksX0_init_1 18 rfl rfl)
theorem dX0_init_45 : decode cX0_init 45 = .ok (.aload_n 0, 1) := dk_42 (dk_at dksX0_init_1 21 rfl rfl)
theorem dX0_init_46 : decode cX0_init 46 = .ok (.bipush 7, 2) := dk_16 7 (dk_at dksX0_init_1 22 rfl rfl)
theorem dX0_init_48 : decode cX0_init 48 = .ok (.newarray .int, 2) := dk_188_10 (dk_at dksX0_init_2 0 rfl rfl)
theorem dX0_init_50 : decode cX0_init 50 = .ok (.putfield 69, 3) := dk_181 0 69 (dk_at dksX0_init_2 2 rfl rfl)
theorem dX0_init_53 : decode cX0_init 53 = .ok (.aload_n 0, 1) := dk_42 (dk_at dksX0_init_2 5 rfl rfl)
theorem dX0_init_54 : decode cX0_init 54 = .ok (.iconst 5, 1) := dk_8 (dk_at dksX0_init_2 6 rfl rfl)
theorem dX0_init_55 : decode cX0_init 55 = .ok (.newarray .int, 2) := dk_188_10 (dk_at dksX0_init_2 7 rfl rfl)
theorem dX0_init_57 : decode cX0_init 57 = .ok (.dup, 1) := dk_89 (dk_at dksX0_init_2 9 rfl rfl)
theorem dX0_init_58 : decode cX0_init 58 = .ok (.iconst 0, 1) := dk_3 (dk_at dksX0_init_2 10 rfl rfl)
theorem dX0_init_59 : decode cX0_init 59 = .ok (.bipush 27, 2) := dk_16 27 (dk_at dksX0_init_2 11 rfl rfl)
theorem dX0_init_61 : decode cX0_init 61 = .ok (.iastore, 1) := dk_79 (dk_at dksX0_init_2 13 rfl rfl)
theorem dX0_init_62 : decode cX0_init 62 = .ok (.dup, 1) := dk_89 (dk_at dksX0_init_2 14 rfl rfl)
theorem dX0_init_63 : decode cX0_init 63 = .ok (.iconst 1, 1) := dk_4 (dk_at dksX0_init_2 15 rfl rfl)
theorem dX0_init_64 : decode cX0_init 64 = .ok (.iconst 0, 1) := dk_3 (dk_at dksX0_init_2 16 rfl rfl)
theorem dX0_init_65 : decode cX0_init 65 = .ok (.iastore, 1) := dk_79 (dk_at dksX0_init_2 17 rfl rfl)
theorem dX0_init_66 : decode cX0_init 66 = .ok (.dup, 1) := dk_89 (dk_at dksX0_init_2 18 rfl rfl)
theorem dX0_init_67 : decode cX0_init 67 = .ok (.iconst 2, 1) := dk_5 (dk_at dksX0_init_2 19 rfl rfl)
theorem dX0_init_68 : decode cX0_init 68 = .ok (.iconst 2, 1) := dk_5 (dk_at dksX0_init_2 20 rfl rfl)
theorem dX0_init_69 : decode cX0_init 69 = .ok (.iastore, 1) := dk_79 (dk_at dksX0_init_2 21 rfl rfl)
theorem dX0_init_70 : decode cX0_init 70 = .ok (.dup, 1) := dk_89 (dk_at dksX0_init_2 22 rfl rfl)
theorem dX0_init_71 : decode cX0_init 71 = .ok (.iconst 3, 1) := dk_6 (dk_at dksX0_init_2 23 rfl rfl)
theorem dX0_init_72 : decode cX0_init 72 = .ok (.iconst 1, 1) := dk_4 (dk_at dksX0_init_3 0 rfl rfl)
theorem dX0_init_73 : decode cX0_init 73 = .ok (.iastore, 1) := dk_79 (dk_at dksX0_init_3 1 rfl rfl)
theorem dX0_init_74 : decode cX0_init 74 = .ok (.dup, 1) := dk_89 (dk_at dksX0_init_3 2 rfl rfl)
theorem dX0_init_75 : decode cX0_init 75 = .ok (.iconst 4, 1) := dk_7 (dk_at dksX0_init_3 3 rfl rfl)
theorem dX0_init_76 : decode cX0_init 76 = .ok (.iconst 0, 1) := dk_3 (dk_at dksX0_init_3 4 rfl rfl)
theorem dX0_init_77 : decode cX0_init 77 = .ok (.iastore, 1) := dk_79 (dk_at dksX0_init_3 5 rfl rfl)
theorem dX0_init_78 : decode cX0_init 78 = .ok (.putfield 98, 3) := dk_181 0 98 (dk_at dksX0_init_3 6 rfl rfl)
theorem dX0_init_81 : decode cX0_init 81 = .ok (.aload_n 0, 1) := dk_42 (dk_at dksX0_init_3 9 rfl rfl)
theorem dX0_init_82 : decode cX0_init 82 = .ok (.new 254, 3) := dk_187 0 254 (dk_at dksX0_init_3 10 rfl rfl)
theorem dX0_init_85 : decode cX0_init 85 = .ok (.dup, 1) := dk_89 (dk_at dksX0_init_3 13 rfl rfl)
theorem dX0_init_86 : decode cX0_init 86 = .ok (.invokespecial 272, 3) := dk_183 1 16 (dk_at dksX0_init_3 14 rfl rfl)
theorem dX0_init_89 : decode cX0_init 89 = .ok (.putfield 172, 3) := dk_181 0 172 (dk_at dksX0_init_3 17 rfl rfl)
theorem dX0_init_92 : decode cX0_init 92 = .ok (.aload_n 0, 1) := dk_42 (dk_at dksX0_init_3 20 rfl rfl)
theorem dX0_init_93 : decode cX0_init 93 = .ok (.bipush 6, 2) := dk_16 6 (dk_at dksX0_init_3 21 rfl rfl)
theorem dX0_init_95 : decode cX0_init 95 = .ok (.anewarray 273, 3) := dk_189 1 17 (dk_at dksX0_init_4 0 rfl rfl)
theorem dX0_init_98 : decode cX0_init 98 = .ok (.putfield 256, 3) := dk_181 1 0 (dk_at dksX0_init_4 3 rfl rfl)
theorem dX0_init_101 : decode cX0_init 101 = .ok (.aload_n 0, 1) := dk_42 (dk_at dksX0_init_4 6 rfl rfl)
theorem dX0_init_102 : decode cX0_init 102 = .ok (.bipush 6, 2) := dk_16 6 (dk_at dksX0_init_4 7 rfl rfl)
theorem dX0_init_104 : decode cX0_init 104 = .ok (.anewarray 168, 3) := dk_189 0 168 (dk_at dksX0_init_4 9 rfl rfl)
theorem dX0_init_107 : decode cX0_init 107 = .ok (.dup, 1) := dk_89 (dk_at dksX0_init_4 12 rfl rfl)
theorem dX0_init_108 : decode cX0_init 108 = .ok (.iconst 0, 1) := dk_3 (dk_at dksX0_init_4 13 rfl rfl)
theorem dX0_init_109 : decode cX0_init 109 = .ok (.ldc_w 275, 3) := dk_19 1 19 (dk_at dksX0_init_4 14 rfl rfl)
theorem dX0_init_112 : decode cX0_init 112 = .ok (.aastore, 1) := dk_83 (dk_at dksX0_init_4 17 rfl rfl)
theorem dX0_init_113 : decode cX0_init 113 = .ok (.dup, 1) := dk_89 (dk_at dksX0_init_4 18 rfl rfl)
theorem dX0_init_114 : decode cX0_init 114 = .ok (.iconst 1, 1) := dk_4 (dk_at dksX0_init_4 19 rfl rfl)
theorem dX0_init_115 : decode cX0_init 115 = .ok (.ldc_w 277, 3) := dk_19 1 21 (dk_at dksX0_init_4 20 rfl rfl)
theorem dX0_init_118 : decode cX0_init 118 = .ok (.aastore, 1) := dk_83 (dk_at dksX0_init_4 23 rfl rfl)
theorem dX0_init_119 : decode cX0_init 119 = .ok (.dup, 1) := dk_89 (dk_at dksX0_init_5 0 rfl rfl)
theorem dX0_init_120 : decode cX0_init 120 = .ok (.iconst 2, 1) := dk_5 (dk_at dksX0_init_5 1 rfl rfl)
theorem dX0_init_121 : decode cX0_init 121 = .ok (.ldc_w 279, 3) := dk_19 1 23 (dk_at dksX0_init_5 2 rfl rfl)
theorem dX0_init_124 : decode cX0_init 124 = .ok (.aastore, 1) := dk_83 (dk_at dksX0_init_5 5 rfl rfl)
theorem dX0_init_125 : decode cX0_init 125 = .ok (.dup, 1) := dk_89 (dk_at dksX0_init_5 6 rfl rfl)
theorem dX0_init_126 : decode cX0_init 126 = .ok (.iconst 3, 1) := dk_6 (dk_at dksX0_init_5 7 rfl rfl)
theorem dX0_init_127 : decode cX0_init 127 = .ok (.ldc_w 281, 3) := dk_19 1 25 (dk_at dksX0_init_5 8 rfl rfl)
theorem dX0_init_130 : decode cX0_init 130 = .ok (.aastore, 1) := dk_83 (dk_at dksX0_init_5 11 rfl rfl)
theorem dX0_init_131 : decode cX0_init 131 = .ok (.dup, 1) := dk_89 (dk_at dksX0_init_5 12 rfl rfl)
theorem dX0_init_132 : decode cX0_init 132 = .ok (.iconst 4, 1) := dk_7 (dk_at dksX0_init_5 13 rfl rfl)
theorem dX0_init_133 : decode cX0_init 133 = .ok (.ldc_w 283, 3) := dk_19 1 27 (dk_at dksX0_init_5 14 rfl rfl)
theorem dX0_init_136 : decode cX0_init 136 = .ok (.aastore, 1) := dk_83 (dk_at dksX0_init_5 17 rfl rfl)
theorem dX0_init_137 : decode cX0_init 137 = .ok (.dup, 1) := dk_89 (dk_at dksX0_init_5 18 rfl rfl)
theorem dX0_init_138 : decode cX0_init 138 = .ok (.iconst 5, 1) := dk_8 (dk_at dksX0_init_5 19 rfl rfl)
theorem dX0_init_139 : decode cX0_init 139 = .ok (.ldc_w 285, 3) := dk_19 1 29 (dk_at dksX0_init_5 20 rfl rfl)
theorem dX0_init_142 : decode cX0_init 142 = .ok (.aastore, 1) := dk_83 (dk_at dksX0_init_5 23 rfl rfl)
theorem dX0_init_143 : decode cX0_init 143 = .ok (.putfield 182, 3) := dk_181 0 182 (dk_at dksX0_init_6 0 rfl rfl)
theorem dX0_init_146 : decode cX0_init 146 = .ok (.aload_n 0, 1) := dk_42 (dk_at dksX0_init_6 3 rfl rfl)
theorem dX0_init_147 : decode cX0_init 147 = .ok (.bipush 6, 2) := dk_16 6 (dk_at dksX0_init_6 4 rfl rfl)
theorem dX0_init_149 : decode cX0_init 149 = .ok (.anewarray 168, 3) := dk_189 0 168 (dk_at dksX0_init_6 6 rfl rfl)
theorem dX0_init_152 : decode cX0_init 152 = .ok (.dup, 1) := dk_89 (dk_at dksX0_init_6 9 rfl rfl)
theorem dX0_init_153 : decode cX0_init 153 = .ok (.iconst 0, 1) := dk_3 (dk_at dksX0_init_6 10 rfl rfl)
theorem dX0_init_154 : decode cX0_init 154 = .ok (.ldc_w 286, 3) := dk_19 1 30 (dk_at dksX0_init_6 11 rfl rfl)
theorem dX0_init_157 : decode cX0_init 157 = .ok (.aastore, 1) := dk_83 (dk_at dksX0_init_6 14 rfl rfl)
theorem dX0_init_158 : decode cX0_init 158 = .ok (.dup, 1) := dk_89 (dk_at dksX0_init_6 15 rfl rfl)
theorem dX0_init_159 : decode cX0_init 159 = .ok (.iconst 1, 1) := dk_4 (dk_at dksX0_init_6 16 rfl rfl)
theorem dX0_init_160 : decode cX0_init 160 = .ok (.ldc_w 288, 3) := dk_19 1 32 (dk_at dksX0_init_6 17 rfl rfl)
theorem dX0_init_163 : decode cX0_init 163 = .ok (.aastore, 1) := dk_83 (dk_at dksX0_init_6 20 rfl rfl)
theorem dX0_init_164 : decode cX0_init 164 = .ok (.dup, 1) := dk_89 (dk_at dksX0_init_6 21 rfl rfl)
theorem dX0_init_165 : decode cX0_init 165 = .ok (.iconst 2, 1) := dk_5 (dk_at dksX0_init_6 22 rfl rfl)
theorem dX0_init_166 : decode cX0_init 166 = .ok (.ldc_w 290, 3) := dk_19 1 34 (dk_at dksX0_init_7 0 rfl rfl)
theorem dX0_init_169 : decode cX0_init 169 = .ok (.aastore, 1) := dk_83 (dk_at dksX0_init_7 3 rfl rfl)
theorem dX0_init_170 : decode cX0_init 170 = .ok (.dup, 1) := dk_89 (dk_at dksX0_init_7 4 rfl rfl)
theorem dX0_init_171 : decode cX0_init 171 = .ok (.iconst 3, 1) := dk_6 (dk_at dksX0_init_7 5 rfl rfl)
theorem dX0_init_172 : decode cX0_init 172 = .ok (.ldc_w 292, 3) := dk_19 1 36 (dk_at dksX0_init_7 6 rfl rfl)
theorem dX0_init_175 : decode cX0_init 175 = .ok (.aastore, 1) := dk_83 (dk_at dksX0_init_7 9 rfl rfl)
theorem dX0_init_176 : decode cX0_init 176 = .ok (.dup, 1) := dk_89 (dk_at dksX0_init_7 10 rfl rfl)
theorem dX0_init_177 : decode cX0_init 177 = .ok (.iconst 4, 1) := dk_7 (dk_at dksX0_init_7 11 rfl rfl)
theorem dX0_init_178 : decode cX0_init 178 = .ok (.ldc_w 294, 3) := dk_19 1 38 (dk_at dksX0_init_7 12 rfl rfl)
theorem dX0_init_181 : decode cX0_init 181 = .ok (.aastore, 1) := dk_83 (dk_at dksX0_init_7 15 rfl rfl)
theorem dX0_init_182 : decode cX0_init 182 = .ok (.dup, 1) := dk_89 (dk_at dksX0_init_7 16 rfl rfl)
theorem dX0_init_183 : decode cX0_init 183 = .ok (.iconst 5, 1) := dk_8 (dk_at dksX0_init_7 17 rfl rfl)
theorem dX0_init_184 : decode cX0_init 184 = .ok (.ldc_w 296, 3) := dk_19 1 40 (dk_at dksX0_init_7 18 rfl rfl)
theorem dX0_init_187 : decode cX0_init 187 = .ok (.aastore, 1) := dk_83 (dk_at dksX0_init_7 21 rfl rfl)
theorem dX0_init_188 : decode cX0_init 188 = .ok (.putfield 190, 3) := dk_181 0 190 (dk_at dksX0_init_8 0 rfl rfl)
theorem dX0_init_191 : decode cX0_init 191 = .ok (.aload_n 0, 1) := dk_42 (dk_at dksX0_init_8 3 rfl rfl)
theorem dX0_init_192 : decode cX0_init 192 = .ok (.sipush 160, 3) := dk_17 0 160 (dk_at dksX0_init_8 4 rfl rfl)
theorem dX0_init_195 : decode cX0_init 195 = .ok (.newarray .byte, 2) := dk_188_8 (dk_at dksX0_init_8 7 rfl rfl)
theorem dX0_init_197 : decode cX0_init 197 = .ok (.putfield 125, 3) := dk_181 0 125 (dk_at dksX0_init_8 9 rfl rfl)
theorem dX0_init_200 : decode cX0_init 200 = .ok (.aload_n 0, 1) := dk_42 (dk_at dksX0_init_8 12 rfl rfl)
theorem dX0_init_201 : decode cX0_init 201 = .ok (.bipush 7, 2) := dk_16 7 (dk_at dksX0_init_8 13 rfl rfl)
theorem dX0_init_203 : decode cX0_init 203 = .ok (.newarray .int, 2) := dk_188_10 (dk_at dksX0_init_8 15 rfl rfl)
theorem dX0_init_205 : decode cX0_init 205 = .ok (.putfield 297, 3) := dk_181 1 41 (dk_at dksX0_init_8 17 rfl rfl)
theorem dX0_init_208 : decode cX0_init 208 = .ok (.aload_n 0, 1) := dk_42 (dk_at dksX0_init_8 20 rfl rfl)
theorem dX0_init_209 : decode cX0_init 209 = .ok (.bipush 7, 2) := dk_16 7 (dk_at dksX0_init_8 21 rfl rfl)
theorem dX0_init_211 : decode cX0_init 211 = .ok (.newarray .int, 2) := dk_188_10 (dk_at dksX0_init_9 0 rfl rfl)
theorem dX0_init_213 : decode cX0_init 213 = .ok (.putfield 300, 3) := dk_181 1 44 (dk_at dksX0_init_9 2 rfl rfl)
theorem dX0_init_216 : decode cX0_init 216 = .ok (.aload_n 0, 1) := dk_42 (dk_at dksX0_init_9 5 rfl rfl)
theorem dX0_init_217 : decode cX0_init 217 = .ok (.bipush 7, 2) := dk_16 7 (dk_at dksX0_init_9 6 rfl rfl)
theorem dX0_init_219 : decode cX0_init 219 = .ok (.newarray .int, 2) := dk_188_10 (dk_at dksX0_init_9 8 rfl rfl)
theorem dX0_init_221 : decode cX0_init 221 = .ok (.putfield 303, 3) := dk_181 1 47 (dk_at dksX0_init_9 10 rfl rfl)
theorem dX0_init_224 : decode cX0_init 224 = .ok (.aload_n 0, 1) := dk_42 (dk_at dksX0_init_9 13 rfl rfl)
theorem dX0_init_225 : decode cX0_init 225 = .ok (.bipush 6, 2) := dk_16 6 (dk_at dksX0_init_9 14 rfl rfl)
theorem dX0_init_227 : decode cX0_init 227 = .ok (.bipush 7, 2) := dk_16 7 (dk_at dksX0_init_9 16 rfl rfl)
theorem dX0_init_229 : decode cX0_init 229 = .ok (.multianewarray 306 2, 4) := by decide +kernel
theorem dX0_init_233 : decode cX0_init 233 = .ok (.putfield 308, 3) := dk_181 1 52 (dk_at dksX0_init_10 0 rfl rfl)
theorem dX0_init_236 : decode cX0_init 236 = .ok (.aload_n 0, 1) := dk_42 (dk_at dksX0_init_10 3 rfl rfl)
theorem dX0_init_237 : decode cX0_init 237 = .ok (.iconst 5, 1) := dk_8 (dk_at dksX0_init_10 4 rfl rfl)
theorem dX0_init_238 : decode cX0_init 238 = .ok (.newarray .int, 2) := dk_188_10 (dk_at dksX0_init_10 5 rfl rfl)
theorem dX0_init_240 : decode cX0_init 240 = .ok (.putfield 311, 3) := dk_181 1 55 (dk_at dksX0_init_10 7 rfl rfl)
theorem dX0_init_243 : decode cX0_init 243 = .ok (.aload_n 0, 1) := dk_42 (dk_at dksX0_init_10 10 rfl rfl)
theorem dX0_init_244 : decode cX0_init 244 = .ok (.iconst 4, 1) := dk_7 (dk_at dksX0_init_10 11 rfl rfl)
theorem dX0_init_245 : decode cX0_init 245 = .ok (.newarray .int, 2) := dk_188_10 (dk_at dksX0_init_10 12 rfl rfl)
theorem dX0_init_247 : decode cX0_init 247 = .ok (.putfield 314, 3) := dk_181 1 58 (dk_at dksX0_init_10 14 rfl rfl)
theorem dX0_init_250 : decode cX0_init 250 = .ok (.aload_n 0, 1) := dk_42 (dk_at dksX0_init_10 17 rfl rfl)
theorem dX0_init_251 : decode cX0_init 251 = .ok (.iconst 4, 1) := dk_7 (dk_at dksX0_init_10 18 rfl rfl)
theorem dX0_init_252 : decode cX0_init 252 = .ok (.anewarray 317, 3) := dk_189 1 61 (dk_at dksX0_init_10 19 rfl rfl)
theorem dX0_init_255 : decode cX0_init 255 = .ok (.dup, 1) := dk_89 (dk_at dksX0_init_10 22 rfl rfl)
theorem dX0_init_256 : decode cX0_init 256 = .ok (.iconst 0, 1) := dk_3 (dk_at dksX0_init_10 23 rfl rfl)
theorem dX0_init_257 : decode cX0_init 257 = .ok (.new 317, 3) := dk_187 1 61 (dk_at dksX0_init_11 0 rfl rfl)
theorem dX0_init_260 : decode cX0_init 260 = .ok (.dup, 1) := dk_89 (dk_at dksX0_init_11 3 rfl rfl)
theorem dX0_init_261 : decode cX0_init 261 = .ok (.invokespecial 319, 3) := dk_183 1 63 (dk_at dksX0_init_11 4 rfl rfl)
theorem dX0_init_264 : decode cX0_init 264 = .ok (.aastore, 1) := dk_83 (dk_at dksX0_init_11 7 rfl rfl)
theorem dX0_init_265 : decode cX0_init 265 = .ok (.dup, 1) := dk_89 (dk_at dksX0_init_11 8 rfl rfl)
theorem dX0_init_266 : decode cX0_init 266 = .ok (.iconst 1, 1) := dk_4 (dk_at dksX0_init_11 9 rfl rfl)
theorem dX0_init_267 : decode cX0_init 267 = .ok (.new 317, 3) := dk_187 1 61 (dk_at dksX0_init_11 10 rfl rfl)
theorem dX0_init_270 : decode cX0_init 270 = .ok (.dup, 1) := dk_89 (dk_at dksX0_init_11 13 rfl rfl)
theorem dX0_init_271 : decode cX0_init 271 = .ok (.invokespecial 319, 3) := dk_183 1 63 (dk_at dksX0_init_11 14 rfl rfl)
theorem dX0_init_274 : decode cX0_init 274 = .ok (.aastore, 1) := dk_83 (dk_at dksX0_init_11 17 rfl rfl)
theorem dX0_init_275 : decode cX0_init 275 = .ok (.dup, 1) := dk_89 (dk_at dksX0_init_11 18 rfl rfl)
theorem dX0_init_276 : decode cX0_init 276 = .ok (.iconst 2, 1) := dk_5 (dk_at dksX0_init_11 19 rfl rfl)
theorem dX0_init_277 : decode cX0_init 277 = .ok (.new 317, 3) := dk_187 1 61 (dk_at dksX0_init_11 20 rfl rfl)
theorem dX0_init_280 : decode cX0_init 280 = .ok (.dup, 1) := dk_89 (dk_at dksX0_init_11 23 rfl rfl)
theorem dX0_init_281 : decode cX0_init 281 = .ok (.invokespecial 319, 3) := dk_183 1 63 (dk_at dksX0_init_12 0 rfl rfl)
theorem dX0_init_284 : decode cX0_init 284 = .ok (.aastore, 1) := dk_83 (dk_at dksX0_init_12 3 rfl rfl)
theorem dX0_init_285 : decode cX0_init 285 = .ok (.dup, 1) := dk_89 (dk_at dksX0_init_12 4 rfl rfl)
theorem dX0_init_286 : decode cX0_init 286 = .ok (.iconst 3, 1) := dk_6 (dk_at dksX0_init_12 5 rfl rfl)
theorem dX0_init_287 : decode cX0_init 287 = .ok (.new 317, 3) := dk_187 1 61 (dk_at dksX0_init_12 6 rfl rfl)
theorem dX0_init_290 : decode cX0_init 290 = .ok (.dup, 1) := dk_89 (dk_at dksX0_init_12 9 rfl rfl)
theorem dX0_init_291 : decode cX0_init 291 = .ok (.invokespecial 319, 3) := dk_183 1 63 (dk_at dksX0_init_12 10 rfl rfl)
theorem dX0_init_294 : decode cX0_init 294 = .ok (.aastore, 1) := dk_83 (dk_at dksX0_init_12 13 rfl rfl)
theorem dX0_init_295 : decode cX0_init 295 = .ok (.putfield 320, 3) := dk_181 1 64 (dk_at dksX0_init_12 14 rfl rfl)
theorem dX0_init_298 : decode cX0_init 298 = .ok (.aload_n 0, 1) := dk_42 (dk_at dksX0_init_12 17 rfl rfl)
theorem dX0_init_299 : decode cX0_init 299 = .ok (.ldc_w 324, 3) := dk_19 1 68 (dk_at dksX0_init_12 18 rfl rfl)
theorem dX0_init_302 : decode cX0_init 302 = .ok (.invokevirtual 326, 3) := dk_182 1 70 (dk_at dksX0_init_12 21 rfl rfl)
theorem dX0_init_305 : decode cX0_init 305 = .ok (.return_, 1) := dk_177 (dk_at dksX0_init_13 0 rfl rfl)
abbrev cX0_firstText : ByteArray := prog_1_method_31_code
def yX0_firstText : MethodName := ⟨RX0, "firstText", "(Ljava/lang/String;)V"⟩
def dkwX0_firstText_1 : List UInt8 := [132, 2, 1, 167, 255, 233, 42, 43, 182, 0, 176, 181, 0, 249, 42, 182, 1, 7, 61, 177]
abbrev dktX0_firstText_1 : List UInt8 := dkwX0_firstText_1 ++ []
def dkwX0_firstText_0 : List UInt8 := [3, 61, 28, 43, 182, 0, 176, 162, 0, 21, 42, 180, 0, 125, 28, 43, 28, 182, 0, 178, 145, 84]
abbrev dktX0_firstText_0 : List UInt8 := dkwX0_firstText_0 ++ dktX0_firstText_1
theorem dksX0_firstText_0 : cX0_firstText.data.toList.drop 0 = dktX0_firstText_0 := by decide +kernel
theorem dksX0_firstText_1 : cX0_firstText.data.toList.drop 22 = dktX0_firstText_1 := dk_seg dksX0_firstText_0 22 rfl rfl
theorem dX0_firstText_0 : decode cX0_firstText 0 = .ok (.iconst 0, 1) := dk_3 (dk_at dksX0_firstText_0 0 rfl rfl)
theorem dX0_firstText_1 : decode cX0_firstText 1 = .ok (.istore_n 2, 1) := dk_61 (dk_at dksX0_firstText_0 1 rfl rfl)
theorem dX0_firstText_2 : decode cX0_firstText 2 = .ok (.iload_n 2, 1) := dk_28 (dk_at dksX0_firstText_0 2 rfl rfl)
theorem dX0_firstText_3 : decode cX0_firstText 3 = .ok (.aload_n 1, 1) := dk_43 (dk_at dksX0_firstText_0 3 rfl rfl)
theorem dX0_firstText_4 : decode cX0_firstText 4 = .ok (.invokevirtual 176, 3) := dk_182 0 176 (dk_at dksX0_firstText_0 4 rfl rfl)
theorem dX0_firstText_7 : decode cX0_firstText 7 = .ok (.if_icmp .ge 21, 3) := dk_162 0 21 (dk_at dksX0_firstText_0 7 rfl rfl)
theorem dX0_firstText_10 : decode cX0_firstText 10 = .ok (.aload_n 0, 1) := dk_42 (dk_at dksX0_firstText_0 10 rfl rfl)
theorem dX0_firstText_11 : decode cX0_firstText 11 = .ok (.getfield 125, 3) := dk_180 0 125 (dk_at dksX0_firstText_0 11 rfl rfl)
theorem dX0_firstText_14 : decode cX0_firstText 14 = .ok (.iload_n 2, 1) := dk_28 (dk_at dksX0_firstText_0 14 rfl rfl)
theorem dX0_firstText_15 : decode cX0_firstText 15 = .ok (.aload_n 1, 1) := dk_43 (dk_at dksX0_firstText_0 15 rfl rfl)
theorem dX0_firstText_16 : decode cX0_firstText 16 = .ok (.iload_n 2, 1) := dk_28 (dk_at dksX0_firstText_0 16 rfl rfl)
theorem dX0_firstText_17 : decode cX0_firstText 17 = .ok (.invokevirtual 178, 3) := dk_182 0 178 (dk_at dksX0_firstText_0 17 rfl rfl)
theorem dX0_firstText_20 : decode cX0_firstText 20 = .ok (.i2b, 1) := dk_145 (dk_at dksX0_firstText_0 20 rfl rfl)
theorem dX0_firstText_21 : decode cX0_firstText 21 = .ok (.bastore, 1) := dk_84 (dk_at dksX0_firstText_0 21 rfl rfl)
theorem dX0_firstText_22 : decode cX0_firstText 22 = .ok (.iinc 2 1, 3) := dk_132 2 1 (dk_at dksX0_firstText_1 0 rfl rfl)
theorem dX0_firstText_25 : decode cX0_firstText 25 = .ok (.goto (-23), 3) := dk_167 255 233 (dk_at dksX0_firstText_1 3 rfl rfl)
theorem dX0_firstText_28 : decode cX0_firstText 28 = .ok (.aload_n 0, 1) := dk_42 (dk_at dksX0_firstText_1 6 rfl rfl)
theorem dX0_firstText_29 : decode cX0_firstText 29 = .ok (.aload_n 1, 1) := dk_43 (dk_at dksX0_firstText_1 7 rfl rfl)
theorem dX0_firstText_30 : decode cX0_firstText 30 = .ok (.invokevirtual 176, 3) := dk_182 0 176 (dk_at dksX0_firstText_1 8 rfl rfl)
theorem dX0_firstText_33 : decode cX0_firstText 33 = .ok (.putfield 249, 3) := dk_181 0 249 (dk_at dksX0_firstText_1 11 rfl rfl)
theorem dX0_firstText_36 : decode cX0_firstText 36 = .ok (.aload_n 0, 1) := dk_42 (dk_at dksX0_firstText_1 14 rfl rfl)
theorem dX0_firstText_37 : decode cX0_firstText 37 = .ok (.invokevirtual 263, 3) := dk_182 1 7 (dk_at dksX0_firstText_1 15 rfl rfl)
theorem dX0_firstText_40 : decode cX0_firstText 40 = .ok (.istore_n 2, 1) := dk_61 (dk_at dksX0_firstText_1 18 rfl rfl)
theorem dX0_firstText_41 : decode cX0_firstText 41 = .ok (.return_, 1) := dk_177 (dk_at dksX0_firstText_1 19 rfl rfl)
abbrev cX0_force : ByteArray := prog_1_method_36_code
def yX0_force : MethodName := ⟨RX0, "force", "(I)I"⟩
def dkwX0_force_0 : List UInt8 := [42, 27, 182, 1, 74, 154, 0, 6, 16, 254, 172, 42, 180, 1, 77, 61, 42, 27, 181, 1, 77, 28, 172]
abbrev dktX0_force_0 : List UInt8 := dkwX0_force_0 ++ []
theorem dksX0_force_0 : cX0_force.data.toList.drop 0 = dktX0_force_0 := by decide +kernel
theorem dX0_force_0 : decode cX0_force 0 = .ok (.aload_n 0, 1) := dk_42 (dk_at dksX0_force_0 0 rfl rfl)
theorem dX0_force_1 : decode cX0_force 1 = .ok (.iload_n 1, 1) := dk_27 (dk_at dksX0_force_0 1 rfl rfl)
theorem dX0_force_2 : decode cX0_force 2 = .ok (.invokevirtual 330, 3) := dk_182 1 74 (dk_at dksX0_force_0 2 rfl rfl)
theorem dX0_force_5 : decode cX0_force 5 = .ok (.ifCond .ne 6, 3) := dk_154 0 6 (dk_at dksX0_force_0 5 rfl rfl)
theorem dX0_force_8 : decode cX0_force 8 = .ok (.bipush (-2), 2) := dk_16 254 (dk_at dksX0_force_0 8 rfl rfl)
theorem dX0_force_10 : decode cX0_force 10 = .ok (.ireturn, 1) := dk_172 (dk_at dksX0_force_0 10 rfl rfl)
theorem dX0_force_11 : decode cX0_force 11 = .ok (.aload_n 0, 1) := dk_42 (dk_at dksX0_force_0 11 rfl rfl)
theorem dX0_force_12 : decode cX0_force 12 = .ok (.getfield 333, 3) := dk_180 1 77 (dk_at dksX0_force_0 12 rfl rfl)
theorem dX0_force_15 : decode cX0_force 15 = .ok (.istore_n 2, 1) := dk_61 (dk_at dksX0_force_0 15 rfl rfl)
theorem dX0_force_16 : decode cX0_force 16 = .ok (.aload_n 0, 1) := dk_42 (dk_at dksX0_force_0 16 rfl rfl)
theorem dX0_force_17 : decode cX0_force 17 = .ok (.iload_n 1, 1) := dk_27 (dk_at dksX0_force_0 17 rfl rfl)
theorem dX0_force_18 : decode cX0_force 18 = .ok (.putfield 333, 3) := dk_181 1 77 (dk_at dksX0_force_0 18 rfl rfl)
theorem dX0_force_21 : decode cX0_force 21 = .ok (.iload_n 2, 1) := dk_28 (dk_at dksX0_force_0 21 rfl rfl)
theorem dX0_force_22 : decode cX0_force 22 = .ok (.ireturn, 1) := dk_172 (dk_at dksX0_force_0 22 rfl rfl)
abbrev cX0_isText : ByteArray := prog_1_method_34_code
def yX0_isText : MethodName := ⟨RX0, "isText", "(I)Z"⟩
def dkwX0_isText_0 : List UInt8 := [27, 133, 9, 42, 180, 1, 4, 4, 100, 133, 184, 0, 5, 172]
abbrev dktX0_isText_0 : List UInt8 := dkwX0_isText_0 ++ []
theorem dksX0_isText_0 : cX0_isText.data.toList.drop 0 = dktX0_isText_0 := by decide +kernel
theorem dX0_isText_0 : decode cX0_isText 0 = .ok (.iload_n 1, 1) := dk_27 (dk_at dksX0_isText_0 0 rfl rfl)
theorem dX0_isText_1 : decode cX0_isText 1 = .ok (.i2l, 1) := dk_133 (dk_at dksX0_isText_0 1 rfl rfl)
theorem dX0_isText_2 : decode cX0_isText 2 = .ok (.lconst 0, 1) := dk_9 (dk_at dksX0_isText_0 2 rfl rfl)
theorem dX0_isText_3 : decode cX0_isText 3 = .ok (.aload_n 0, 1) := dk_42 (dk_at dksX0_isText_0 3 rfl rfl)
theorem dX0_isText_4 : decode cX0_isText 4 = .ok (.getfield 260, 3) := dk_180 1 4 (dk_at dksX0_isText_0 4 rfl rfl)
theorem dX0_isText_7 : decode cX0_isText 7 = .ok (.iconst 1, 1) := dk_4 (dk_at dksX0_isText_0 7 rfl rfl)
theorem dX0_isText_8 : decode cX0_isText 8 = .ok (.isub, 1) := dk_100 (dk_at dksX0_isText_0 8 rfl rfl)
theorem dX0_isText_9 : decode cX0_isText 9 = .ok (.i2l, 1) := dk_133 (dk_at dksX0_isText_0 9 rfl rfl)
theorem dX0_isText_10 : decode cX0_isText 10 = .ok (.invokestatic 5, 3) := dk_184 0 5 (dk_at dksX0_isText_0 10 rfl rfl)
theorem dX0_isText_13 : decode cX0_isText 13 = .ok (.ireturn, 1) := dk_172 (dk_at dksX0_isText_0 13 rfl rfl)
abbrev cX0_call : ByteArray := prog_1_method_45_code
def yX0_call : MethodName := ⟨RX0, "call", "(I)I"⟩
def dkwX0_call_1 : List UInt8 := [182, 1, 109, 167, 0, 5, 16, 253, 172]
abbrev dktX0_call_1 : List UInt8 := dkwX0_call_1 ++ []
def dkwX0_call_0 : List UInt8 := [42, 27, 182, 0, 72, 154, 0, 6, 16, 254, 172, 42, 180, 0, 66, 27, 46, 154, 0, 11, 42, 27]
abbrev dktX0_call_0 : List UInt8 := dkwX0_call_0 ++ dktX0_call_1
theorem dksX0_call_0 : cX0_call.data.toList.drop 0 = dktX0_call_0 := by decide +kernel
theorem dksX0_call_1 : cX0_call.data.toList.drop 22 = dktX0_call_1 := dk_seg dksX0_call_0 22 rfl rfl
theorem dX0_call_0 : decode cX0_call 0 = .ok (.aload_n 0, 1) := dk_42 (dk_at dksX0_call_0 0 rfl rfl)
theorem dX0_call_1 : decode cX0_call 1 = .ok (.iload_n 1, 1) := dk_27 (dk_at dksX0_call_0 1 rfl rfl)
theorem dX0_call_2 : decode cX0_call 2 = .ok (.invokevirtual 72, 3) := dk_182 0 72 (dk_at dksX0_call_0 2 rfl rfl)
theorem dX0_call_5 : decode cX0_call 5 = .ok (.ifCond .ne 6, 3) := dk_154 0 6 (dk_at dksX0_call_0 5 rfl rfl)
theorem dX0_call_8 : decode cX0_call 8 = .ok (.bipush (-2), 2) := dk_16 254 (dk_at dksX0_call_0 8 rfl rfl)
theorem dX0_call_10 : decode cX0_call 10 = .ok (.ireturn, 1) := dk_172 (dk_at dksX0_call_0 10 rfl rfl)
theorem dX0_call_11 : decode cX0_call 11 = .ok (.aload_n 0, 1) := dk_42 (dk_at dksX0_call_0 11 rfl rfl)
theorem dX0_call_12 : decode cX0_call 12 = .ok (.getfield 66, 3) := dk_180 0 66 (dk_at dksX0_call_0 12 rfl rfl)
theorem dX0_call_15 : decode cX0_call 15 = .ok (.iload_n 1, 1) := dk_27 (dk_at dksX0_call_0 15 rfl rfl)
theorem dX0_call_16 : decode cX0_call 16 = .ok (.iaload, 1) := dk_46 (dk_at dksX0_call_0 16 rfl rfl)
theorem dX0_call_17 : decode cX0_call 17 = .ok (.ifCond .ne 11, 3) := dk_154 0 11 (dk_at dksX0_call_0 17 rfl rfl)
theorem dX0_call_20 : decode cX0_call 20 = .ok (.aload_n 0, 1) := dk_42 (dk_at dksX0_call_0 20 rfl rfl)
theorem dX0_call_21 : decode cX0_call 21 = .ok (.iload_n 1, 1) := dk_27 (dk_at dksX0_call_0 21 rfl rfl)
theorem dX0_call_22 : decode cX0_call 22 = .ok (.invokevirtual 365, 3) := dk_182 1 109 (dk_at dksX0_call_1 0 rfl rfl)
theorem dX0_call_25 : decode cX0_call 25 = .ok (.goto 5, 3) := dk_167 0 5 (dk_at dksX0_call_1 3 rfl rfl)
theorem dX0_call_28 : decode cX0_call 28 = .ok (.bipush (-3), 2) := dk_16 253 (dk_at dksX0_call_1 6 rfl rfl)
theorem dX0_call_30 : decode cX0_call 30 = .ok (.ireturn, 1) := dk_172 (dk_at dksX0_call_1 8 rfl rfl)
abbrev cX0_calls : ByteArray := prog_1_method_44_code
def yX0_calls : MethodName := ⟨RX0, "calls", "(I)I"⟩
def dkwX0_calls_1 : List UInt8 := [180, 0, 116, 42, 27, 182, 1, 106, 96, 79, 4, 172]
abbrev dktX0_calls_1 : List UInt8 := dkwX0_calls_1 ++ []
def dkwX0_calls_0 : List UInt8 := [42, 27, 182, 0, 113, 154, 0, 5, 3, 172, 42, 180, 0, 66, 27, 4, 79, 42, 180, 0, 69, 27, 42]
abbrev dktX0_calls_0 : List UInt8 := dkwX0_calls_0 ++ dktX0_calls_1
theorem dksX0_calls_0 : cX0_calls.data.toList.drop 0 = dktX0_calls_0 := by decide +kernel
theorem dksX0_calls_1 : cX0_calls.data.toList.drop 23 = dktX0_calls_1 := dk_seg dksX0_calls_0 23 rfl rfl
theorem dX0_calls_0 : decode cX0_calls 0 = .ok (.aload_n 0, 1) := dk_42 (dk_at dksX0_calls_0 0 rfl rfl)
theorem dX0_calls_1 : decode cX0_calls 1 = .ok (.iload_n 1, 1) := dk_27 (dk_at dksX0_calls_0 1 rfl rfl)
theorem dX0_calls_2 : decode cX0_calls 2 = .ok (.invokevirtual 113, 3) := dk_182 0 113 (dk_at dksX0_calls_0 2 rfl rfl)
theorem dX0_calls_5 : decode cX0_calls 5 = .ok (.ifCond .ne 5, 3) := dk_154 0 5 (dk_at dksX0_calls_0 5 rfl rfl)
theorem dX0_calls_8 : decode cX0_calls 8 = .ok (.iconst 0, 1) := dk_3 (dk_at dksX0_calls_0 8 rfl rfl)
theorem dX0_calls_9 : decode cX0_calls 9 = .ok (.ireturn, 1) := dk_172 (dk_at dksX0_calls_0 9 rfl rfl)
theorem dX0_calls_10 : decode cX0_calls 10 = .ok (.aload_n 0, 1) := dk_42 (dk_at dksX0_calls_0 10 rfl rfl)
theorem dX0_calls_11 : decode cX0_calls 11 = .ok (.getfield 66, 3) := dk_180 0 66 (dk_at dksX0_calls_0 11 rfl rfl)
theorem dX0_calls_14 : decode cX0_calls 14 = .ok (.iload_n 1, 1) := dk_27 (dk_at dksX0_calls_0 14 rfl rfl)
theorem dX0_calls_15 : decode cX0_calls 15 = .ok (.iconst 1, 1) := dk_4 (dk_at dksX0_calls_0 15 rfl rfl)
theorem dX0_calls_16 : decode cX0_calls 16 = .ok (.iastore, 1) := dk_79 (dk_at dksX0_calls_0 16 rfl rfl)
theorem dX0_calls_17 : decode cX0_calls 17 = .ok (.aload_n 0, 1) := dk_42 (dk_at dksX0_calls_0 17 rfl rfl)
theorem dX0_calls_18 : decode cX0_calls 18 = .ok (.getfield 69, 3) := dk_180 0 69 (dk_at dksX0_calls_0 18 rfl rfl)
theorem dX0_calls_21 : decode cX0_calls 21 = .ok (.iload_n 1, 1) := dk_27 (dk_at dksX0_calls_0 21 rfl rfl)
theorem dX0_calls_22 : decode cX0_calls 22 = .ok (.aload_n 0, 1) := dk_42 (dk_at dksX0_calls_0 22 rfl rfl)
theorem dX0_calls_23 : decode cX0_calls 23 = .ok (.getfield 116, 3) := dk_180 0 116 (dk_at dksX0_calls_1 0 rfl rfl)
theorem dX0_calls_26 : decode cX0_calls 26 = .ok (.aload_n 0, 1) := dk_42 (dk_at dksX0_calls_1 3 rfl rfl)
theorem dX0_calls_27 : decode cX0_calls 27 = .ok (.iload_n 1, 1) := dk_27 (dk_at dksX0_calls_1 4 rfl rfl)
theorem dX0_calls_28 : decode cX0_calls 28 = .ok (.invokevirtual 362, 3) := dk_182 1 106 (dk_at dksX0_calls_1 5 rfl rfl)
theorem dX0_calls_31 : decode cX0_calls 31 = .ok (.iadd, 1) := dk_96 (dk_at dksX0_calls_1 8 rfl rfl)
theorem dX0_calls_32 : decode cX0_calls 32 = .ok (.iastore, 1) := dk_79 (dk_at dksX0_calls_1 9 rfl rfl)
theorem dX0_calls_33 : decode cX0_calls 33 = .ok (.iconst 1, 1) := dk_4 (dk_at dksX0_calls_1 10 rfl rfl)
theorem dX0_calls_34 : decode cX0_calls 34 = .ok (.ireturn, 1) := dk_172 (dk_at dksX0_calls_1 11 rfl rfl)
abbrev cX0_needs : ByteArray := prog_1_method_41_code
def yX0_needs : MethodName := ⟨RX0, "needs", "(I)I"⟩
def dkwX0_needs_1 : List UInt8 := [182, 0, 107, 104, 172]
abbrev dktX0_needs_1 : List UInt8 := dkwX0_needs_1 ++ []
def dkwX0_needs_0 : List UInt8 := [42, 180, 0, 56, 27, 46, 3, 184, 1, 92, 42, 180, 0, 48, 27, 50, 42, 180, 0, 98, 4, 46]
abbrev dktX0_needs_0 : List UInt8 := dkwX0_needs_0 ++ dktX0_needs_1
theorem dksX0_needs_0 : cX0_needs.data.toList.drop 0 = dktX0_needs_0 := by decide +kernel
theorem dksX0_needs_1 : cX0_needs.data.toList.drop 22 = dktX0_needs_1 := dk_seg dksX0_needs_0 22 rfl rfl
theorem dX0_needs_0 : decode cX0_needs 0 = .ok (.aload_n 0, 1) := dk_42 (dk_at dksX0_needs_0 0 rfl rfl)
theorem dX0_needs_1 : decode cX0_needs 1 = .ok (.getfield 56, 3) := dk_180 0 56 (dk_at dksX0_needs_0 1 rfl rfl)
theorem dX0_needs_4 : decode cX0_needs 4 = .ok (.iload_n 1, 1) := dk_27 (dk_at dksX0_needs_0 4 rfl rfl)
theorem dX0_needs_5 : decode cX0_needs 5 = .ok (.iaload, 1) := dk_46 (dk_at dksX0_needs_0 5 rfl rfl)
theorem dX0_needs_6 : decode cX0_needs 6 = .ok (.iconst 0, 1) := dk_3 (dk_at dksX0_needs_0 6 rfl rfl)
theorem dX0_needs_7 : decode cX0_needs 7 = .ok (.invokestatic 348, 3) := dk_184 1 92 (dk_at dksX0_needs_0 7 rfl rfl)
theorem dX0_needs_10 : decode cX0_needs 10 = .ok (.aload_n 0, 1) := dk_42 (dk_at dksX0_needs_0 10 rfl rfl)
theorem dX0_needs_11 : decode cX0_needs 11 = .ok (.getfield 48, 3) := dk_180 0 48 (dk_at dksX0_needs_0 11 rfl rfl)
theorem dX0_needs_14 : decode cX0_needs 14 = .ok (.iload_n 1, 1) := dk_27 (dk_at dksX0_needs_0 14 rfl rfl)
theorem dX0_needs_15 : decode cX0_needs 15 = .ok (.aaload, 1) := dk_50 (dk_at dksX0_needs_0 15 rfl rfl)
theorem dX0_needs_16 : decode cX0_needs 16 = .ok (.aload_n 0, 1) := dk_42 (dk_at dksX0_needs_0 16 rfl rfl)
theorem dX0_needs_17 : decode cX0_needs 17 = .ok (.getfield 98, 3) := dk_180 0 98 (dk_at dksX0_needs_0 17 rfl rfl)
theorem dX0_needs_20 : decode cX0_needs 20 = .ok (.iconst 1, 1) := dk_4 (dk_at dksX0_needs_0 20 rfl rfl)
theorem dX0_needs_21 : decode cX0_needs 21 = .ok (.iaload, 1) := dk_46 (dk_at dksX0_needs_0 21 rfl rfl)
theorem dX0_needs_22 : decode cX0_needs 22 = .ok (.invokevirtual 107, 3) := dk_182 0 107 (dk_at dksX0_needs_1 0 rfl rfl)
theorem dX0_needs_25 : decode cX0_needs 25 = .ok (.imul, 1) := dk_104 (dk_at dksX0_needs_1 3 rfl rfl)
theorem dX0_needs_26 : decode cX0_needs 26 = .ok (.ireturn, 1) := dk_172 (dk_at dksX0_needs_1 4 rfl rfl)
abbrev cX0_time : ByteArray := prog_1_method_47_code
def yX0_time : MethodName := ⟨RX0, "time", "(I)I"⟩
def dkwX0_time_0 : List UInt8 := [27, 133, 9, 20, 0, 46, 184, 0, 5, 153, 0, 11, 42, 27, 182, 1, 116, 167, 0, 5, 16, 254, 172]
abbrev dktX0_time_0 : List UInt8 := dkwX0_time_0 ++ []
theorem dksX0_time_0 : cX0_time.data.toList.drop 0 = dktX0_time_0 := by decide +kernel
theorem dX0_time_0 : decode cX0_time 0 = .ok (.iload_n 1, 1) := dk_27 (dk_at dksX0_time_0 0 rfl rfl)
theorem dX0_time_1 : decode cX0_time 1 = .ok (.i2l, 1) := dk_133 (dk_at dksX0_time_0 1 rfl rfl)
theorem dX0_time_2 : decode cX0_time 2 = .ok (.lconst 0, 1) := dk_9 (dk_at dksX0_time_0 2 rfl rfl)
theorem dX0_time_3 : decode cX0_time 3 = .ok (.ldc2_w 46, 3) := dk_20 0 46 (dk_at dksX0_time_0 3 rfl rfl)
theorem dX0_time_6 : decode cX0_time 6 = .ok (.invokestatic 5, 3) := dk_184 0 5 (dk_at dksX0_time_0 6 rfl rfl)
theorem dX0_time_9 : decode cX0_time 9 = .ok (.ifCond .eq 11, 3) := dk_153 0 11 (dk_at dksX0_time_0 9 rfl rfl)
theorem dX0_time_12 : decode cX0_time 12 = .ok (.aload_n 0, 1) := dk_42 (dk_at dksX0_time_0 12 rfl rfl)
theorem dX0_time_13 : decode cX0_time 13 = .ok (.iload_n 1, 1) := dk_27 (dk_at dksX0_time_0 13 rfl rfl)
theorem dX0_time_14 : decode cX0_time 14 = .ok (.invokevirtual 372, 3) := dk_182 1 116 (dk_at dksX0_time_0 14 rfl rfl)
theorem dX0_time_17 : decode cX0_time 17 = .ok (.goto 5, 3) := dk_167 0 5 (dk_at dksX0_time_0 17 rfl rfl)
theorem dX0_time_20 : decode cX0_time 20 = .ok (.bipush (-2), 2) := dk_16 254 (dk_at dksX0_time_0 20 rfl rfl)
theorem dX0_time_22 : decode cX0_time 22 = .ok (.ireturn, 1) := dk_172 (dk_at dksX0_time_0 22 rfl rfl)
abbrev cX0_passes : ByteArray := prog_1_method_46_code
def yX0_passes : MethodName := ⟨RX0, "passes", "(I)I"⟩
def dkwX0_passes_3 : List UInt8 := [132, 3, 1, 167, 255, 205, 28, 172]
abbrev dktX0_passes_3 : List UInt8 := dkwX0_passes_3 ++ []
def dkwX0_passes_2 : List UInt8 := [180, 0, 116, 164, 0, 6, 167, 0, 17, 42, 29, 42, 180, 0, 69, 29, 46, 182, 1, 112, 132, 2, 1]
abbrev dktX0_passes_2 : List UInt8 := dkwX0_passes_2 ++ dktX0_passes_3
def dkwX0_passes_1 : List UInt8 := [180, 0, 15, 162, 0, 49, 42, 180, 0, 66, 29, 46, 4, 160, 0, 33, 42, 180, 0, 69, 29, 46, 42]
abbrev dktX0_passes_1 : List UInt8 := dkwX0_passes_1 ++ dktX0_passes_2
def dkwX0_passes_0 : List UInt8 := [42, 17, 39, 15, 42, 180, 0, 116, 27, 96, 184, 1, 86, 181, 0, 116, 3, 61, 3, 62, 29, 42]
abbrev dktX0_passes_0 : List UInt8 := dkwX0_passes_0 ++ dktX0_passes_1
theorem dksX0_passes_0 : cX0_passes.data.toList.drop 0 = dktX0_passes_0 := by decide +kernel
theorem dksX0_passes_1 : cX0_passes.data.toList.drop 22 = dktX0_passes_1 := dk_seg dksX0_passes_0 22 rfl rfl
theorem dksX0_passes_2 : cX0_passes.data.toList.drop 45 = dktX0_passes_2 := dk_seg dksX0_passes_1 23 rfl rfl
theorem dksX0_passes_3 : cX0_passes.data.toList.drop 68 = dktX0_passes_3 := dk_seg dksX0_passes_2 23 rfl rfl
theorem dX0_passes_0 : decode cX0_passes 0 = .ok (.aload_n 0, 1) := dk_42 (dk_at dksX0_passes_0 0 rfl rfl)
theorem dX0_passes_1 : decode cX0_passes 1 = .ok (.sipush 9999, 3) := dk_17 39 15 (dk_at dksX0_passes_0 1 rfl rfl)
theorem dX0_passes_4 : decode cX0_passes 4 = .ok (.aload_n 0, 1) := dk_42 (dk_at dksX0_passes_0 4 rfl rfl)
theorem dX0_passes_5 : decode cX0_passes 5 = .ok (.getfield 116, 3) := dk_180 0 116 (dk_at dksX0_passes_0 5 rfl rfl)
theorem dX0_passes_8 : decode cX0_passes 8 = .ok (.iload_n 1, 1) := dk_27 (dk_at dksX0_passes_0 8 rfl rfl)
theorem dX0_passes_9 : decode cX0_passes 9 = .ok (.iadd, 1) := dk_96 (dk_at dksX0_passes_0 9 rfl rfl)
theorem dX0_passes_10 : decode cX0_passes 10 = .ok (.invokestatic 342, 3) := dk_184 1 86 (dk_at dksX0_passes_0 10 rfl rfl)
theorem dX0_passes_13 : decode cX0_passes 13 = .ok (.putfield 116, 3) := dk_181 0 116 (dk_at dksX0_passes_0 13 rfl rfl)
theorem dX0_passes_16 : decode cX0_passes 16 = .ok (.iconst 0, 1) := dk_3 (dk_at dksX0_passes_0 16 rfl rfl)
theorem dX0_passes_17 : decode cX0_passes 17 = .ok (.istore_n 2, 1) := dk_61 (dk_at dksX0_passes_0 17 rfl rfl)
theorem dX0_passes_18 : decode cX0_passes 18 = .ok (.iconst 0, 1) := dk_3 (dk_at dksX0_passes_0 18 rfl rfl)
theorem dX0_passes_19 : decode cX0_passes 19 = .ok (.istore_n 3, 1) := dk_62 (dk_at dksX0_passes_0 19 rfl rfl)
theorem dX0_passes_20 : decode cX0_passes 20 = .ok (.iload_n 3, 1) := dk_29 (dk_at dksX0_passes_0 20 rfl rfl)
theorem dX0_passes_21 : decode cX0_passes 21 = .ok (.aload_n 0, 1) := dk_42 (dk_at dksX0_passes_0 21 rfl rfl)
theorem dX0_passes_22 : decode cX0_passes 22 = .ok (.getfield 15, 3) := dk_180 0 15 (dk_at dksX0_passes_1 0 rfl rfl)
theorem dX0_passes_25 : decode cX0_passes 25 = .ok (.if_icmp .ge 49, 3) := dk_162 0 49 (dk_at dksX0_passes_1 3 rfl rfl)
theorem dX0_passes_28 : decode cX0_passes 28 = .ok (.aload_n 0, 1) := dk_42 (dk_at dksX0_passes_1 6 rfl rfl)
theorem dX0_passes_29 : decode cX0_passes 29 = .ok (.getfield 66, 3) := dk_180 0 66 (dk_at dksX0_passes_1 7 rfl rfl)
theorem dX0_passes_32 : decode cX0_passes 32 = .ok (.iload_n 3, 1) := dk_29 (dk_at dksX0_passes_1 10 rfl rfl)
theorem dX0_passes_33 : decode cX0_passes 33 = .ok (.iaload, 1) := dk_46 (dk_at dksX0_passes_1 11 rfl rfl)
theorem dX0_passes_34 : decode cX0_passes 34 = .ok (.iconst 1, 1) := dk_4 (dk_at dksX0_passes_1 12 rfl rfl)
theorem dX0_passes_35 : decode cX0_passes 35 = .ok (.if_icmp .ne 33, 3) := dk_160 0 33 (dk_at dksX0_passes_1 13 rfl rfl)
theorem dX0_passes_38 : decode cX0_passes 38 = .ok (.aload_n 0, 1) := dk_42 (dk_at dksX0_passes_1 16 rfl rfl)
theorem dX0_passes_39 : decode cX0_passes 39 = .ok (.getfield 69, 3) := dk_180 0 69 (dk_at dksX0_passes_1 17 rfl rfl)
theorem dX0_passes_42 : decode cX0_passes 42 = .ok (.iload_n 3, 1) := dk_29 (dk_at dksX0_passes_1 20 rfl rfl)
theorem dX0_passes_43 : decode cX0_passes 43 = .ok (.iaload, 1) := dk_46 (dk_at dksX0_passes_1 21 rfl rfl)
theorem dX0_passes_44 : decode cX0_passes 44 = .ok (.aload_n 0, 1) := dk_42 (dk_at dksX0_passes_1 22 rfl rfl)
theorem dX0_passes_45 : decode cX0_passes 45 = .ok (.getfield 116, 3) := dk_180 0 116 (dk_at dksX0_passes_2 0 rfl rfl)
theorem dX0_passes_48 : decode cX0_passes 48 = .ok (.if_icmp .le 6, 3) := dk_164 0 6 (dk_at dksX0_passes_2 3 rfl rfl)
theorem dX0_passes_51 : decode cX0_passes 51 = .ok (.goto 17, 3) := dk_167 0 17 (dk_at dksX0_passes_2 6 rfl rfl)
theorem dX0_passes_54 : decode cX0_passes 54 = .ok (.aload_n 0, 1) := dk_42 (dk_at dksX0_passes_2 9 rfl rfl)
theorem dX0_passes_55 : decode cX0_passes 55 = .ok (.iload_n 3, 1) := dk_29 (dk_at dksX0_passes_2 10 rfl rfl)
theorem dX0_passes_56 : decode cX0_passes 56 = .ok (.aload_n 0, 1) := dk_42 (dk_at dksX0_passes_2 11 rfl rfl)
theorem dX0_passes_57 : decode cX0_passes 57 = .ok (.getfield 69, 3) := dk_180 0 69 (dk_at dksX0_passes_2 12 rfl rfl)
theorem dX0_passes_60 : decode cX0_passes 60 = .ok (.iload_n 3, 1) := dk_29 (dk_at dksX0_passes_2 15 rfl rfl)
theorem dX0_passes_61 : decode cX0_passes 61 = .ok (.iaload, 1) := dk_46 (dk_at dksX0_passes_2 16 rfl rfl)
theorem dX0_passes_62 : decode cX0_passes 62 = .ok (.invokevirtual 368, 3) := dk_182 1 112 (dk_at dksX0_passes_2 17 rfl rfl)
theorem dX0_passes_65 : decode cX0_passes 65 = .ok (.iinc 2 1, 3) := dk_132 2 1 (dk_at dksX0_passes_2 20 rfl rfl)
theorem dX0_passes_68 : decode cX0_passes 68 = .ok (.iinc 3 1, 3) := dk_132 3 1 (dk_at dksX0_passes_3 0 rfl rfl)
theorem dX0_passes_71 : decode cX0_passes 71 = .ok (.goto (-51), 3) := dk_167 255 205 (dk_at dksX0_passes_3 3 rfl rfl)
theorem dX0_passes_74 : decode cX0_passes 74 = .ok (.iload_n 2, 1) := dk_28 (dk_at dksX0_passes_3 6 rfl rfl)
theorem dX0_passes_75 : decode cX0_passes 75 = .ok (.ireturn, 1) := dk_172 (dk_at dksX0_passes_3 7 rfl rfl)
abbrev cX0_comesIn : ByteArray := prog_1_method_43_code
def yX0_comesIn : MethodName := ⟨RX0, "comesIn", "(II)V"⟩
def dkwX0_comesIn_2 : List UInt8 := [177]
abbrev dktX0_comesIn_2 : List UInt8 := dkwX0_comesIn_2 ++ []
def dkwX0_comesIn_1 : List UInt8 := [180, 0, 69, 27, 28, 79, 42, 180, 0, 98, 7, 3, 42, 180, 0, 98, 7, 46, 4, 100, 184, 1, 89, 79]
abbrev dktX0_comesIn_1 : List UInt8 := dkwX0_comesIn_1 ++ dktX0_comesIn_2
def dkwX0_comesIn_0 : List UInt8 := [42, 89, 180, 1, 103, 42, 27, 28, 182, 0, 119, 96, 181, 1, 103, 42, 180, 0, 66, 27, 5, 79, 42]
abbrev dktX0_comesIn_0 : List UInt8 := dkwX0_comesIn_0 ++ dktX0_comesIn_1
theorem dksX0_comesIn_0 : cX0_comesIn.data.toList.drop 0 = dktX0_comesIn_0 := by decide +kernel
theorem dksX0_comesIn_1 : cX0_comesIn.data.toList.drop 23 = dktX0_comesIn_1 := dk_seg dksX0_comesIn_0 23 rfl rfl
theorem dksX0_comesIn_2 : cX0_comesIn.data.toList.drop 47 = dktX0_comesIn_2 := dk_seg dksX0_comesIn_1 24 rfl rfl
theorem dX0_comesIn_0 : decode cX0_comesIn 0 = .ok (.aload_n 0, 1) := dk_42 (dk_at dksX0_comesIn_0 0 rfl rfl)
theorem dX0_comesIn_1 : decode cX0_comesIn 1 = .ok (.dup, 1) := dk_89 (dk_at dksX0_comesIn_0 1 rfl rfl)
theorem dX0_comesIn_2 : decode cX0_comesIn 2 = .ok (.getfield 359, 3) := dk_180 1 103 (dk_at dksX0_comesIn_0 2 rfl rfl)
theorem dX0_comesIn_5 : decode cX0_comesIn 5 = .ok (.aload_n 0, 1) := dk_42 (dk_at dksX0_comesIn_0 5 rfl rfl)
theorem dX0_comesIn_6 : decode cX0_comesIn 6 = .ok (.iload_n 1, 1) := dk_27 (dk_at dksX0_comesIn_0 6 rfl rfl)
theorem dX0_comesIn_7 : decode cX0_comesIn 7 = .ok (.iload_n 2, 1) := dk_28 (dk_at dksX0_comesIn_0 7 rfl rfl)
theorem dX0_comesIn_8 : decode cX0_comesIn 8 = .ok (.invokevirtual 119, 3) := dk_182 0 119 (dk_at dksX0_comesIn_0 8 rfl rfl)
theorem dX0_comesIn_11 : decode cX0_comesIn 11 = .ok (.iadd, 1) := dk_96 (dk_at dksX0_comesIn_0 11 rfl rfl)
theorem dX0_comesIn_12 : decode cX0_comesIn 12 = .ok (.putfield 359, 3) := dk_181 1 103 (dk_at dksX0_comesIn_0 12 rfl rfl)
theorem dX0_comesIn_15 : decode cX0_comesIn 15 = .ok (.aload_n 0, 1) := dk_42 (dk_at dksX0_comesIn_0 15 rfl rfl)
theorem dX0_comesIn_16 : decode cX0_comesIn 16 = .ok (.getfield 66, 3) := dk_180 0 66 (dk_at dksX0_comesIn_0 16 rfl rfl)
theorem dX0_comesIn_19 : decode cX0_comesIn 19 = .ok (.iload_n 1, 1) := dk_27 (dk_at dksX0_comesIn_0 19 rfl rfl)
theorem dX0_comesIn_20 : decode cX0_comesIn 20 = .ok (.iconst 2, 1) := dk_5 (dk_at dksX0_comesIn_0 20 rfl rfl)
theorem dX0_comesIn_21 : decode cX0_comesIn 21 = .ok (.iastore, 1) := dk_79 (dk_at dksX0_comesIn_0 21 rfl rfl)
theorem dX0_comesIn_22 : decode cX0_comesIn 22 = .ok (.aload_n 0, 1) := dk_42 (dk_at dksX0_comesIn_0 22 rfl rfl)
theorem dX0_comesIn_23 : decode cX0_comesIn 23 = .ok (.getfield 69, 3) := dk_180 0 69 (dk_at dksX0_comesIn_1 0 rfl rfl)
theorem dX0_comesIn_26 : decode cX0_comesIn 26 = .ok (.iload_n 1, 1) := dk_27 (dk_at dksX0_comesIn_1 3 rfl rfl)
theorem dX0_comesIn_27 : decode cX0_comesIn 27 = .ok (.iload_n 2, 1) := dk_28 (dk_at dksX0_comesIn_1 4 rfl rfl)
theorem dX0_comesIn_28 : decode cX0_comesIn 28 = .ok (.iastore, 1) := dk_79 (dk_at dksX0_comesIn_1 5 rfl rfl)
theorem dX0_comesIn_29 : decode cX0_comesIn 29 = .ok (.aload_n 0, 1) := dk_42 (dk_at dksX0_comesIn_1 6 rfl rfl)
theorem dX0_comesIn_30 : decode cX0_comesIn 30 = .ok (.getfield 98, 3) := dk_180 0 98 (dk_at dksX0_comesIn_1 7 rfl rfl)
theorem dX0_comesIn_33 : decode cX0_comesIn 33 = .ok (.iconst 4, 1) := dk_7 (dk_at dksX0_comesIn_1 10 rfl rfl)
theorem dX0_comesIn_34 : decode cX0_comesIn 34 = .ok (.iconst 0, 1) := dk_3 (dk_at dksX0_comesIn_1 11 rfl rfl)
theorem dX0_comesIn_35 : decode cX0_comesIn 35 = .ok (.aload_n 0, 1) := dk_42 (dk_at dksX0_comesIn_1 12 rfl rfl)
theorem dX0_comesIn_36 : decode cX0_comesIn 36 = .ok (.getfield 98, 3) := dk_180 0 98 (dk_at dksX0_comesIn_1 13 rfl rfl)
theorem dX0_comesIn_39 : decode cX0_comesIn 39 = .ok (.iconst 4, 1) := dk_7 (dk_at dksX0_comesIn_1 16 rfl rfl)
theorem dX0_comesIn_40 : decode cX0_comesIn 40 = .ok (.iaload, 1) := dk_46 (dk_at dksX0_comesIn_1 17 rfl rfl)
theorem dX0_comesIn_41 : decode cX0_comesIn 41 = .ok (.iconst 1, 1) := dk_4 (dk_at dksX0_comesIn_1 18 rfl rfl)
theorem dX0_comesIn_42 : decode cX0_comesIn 42 = .ok (.isub, 1) := dk_100 (dk_at dksX0_comesIn_1 19 rfl rfl)
theorem dX0_comesIn_43 : decode cX0_comesIn 43 = .ok (.invokestatic 345, 3) := dk_184 1 89 (dk_at dksX0_comesIn_1 20 rfl rfl)
theorem dX0_comesIn_46 : decode cX0_comesIn 46 = .ok (.iastore, 1) := dk_79 (dk_at dksX0_comesIn_1 23 rfl rfl)
theorem dX0_comesIn_47 : decode cX0_comesIn 47 = .ok (.return_, 1) := dk_177 (dk_at dksX0_comesIn_2 0 rfl rfl)
abbrev cX0_nobody : ByteArray := prog_1_method_49_code
def yX0_nobody : MethodName := ⟨RX0, "nobody", "()I"⟩
def dkwX0_nobody_1 : List UInt8 := [182, 0, 113, 154, 0, 9, 4, 28, 120, 167, 0, 4, 3, 128, 60, 132, 2, 1, 167, 255, 218, 27, 172]
abbrev dktX0_nobody_1 : List UInt8 := dkwX0_nobody_1 ++ []
def dkwX0_nobody_0 : List UInt8 := [3, 60, 3, 61, 28, 42, 180, 0, 15, 162, 0, 36, 27, 42, 180, 0, 66, 28, 46, 154, 0, 17, 42, 28]
abbrev dktX0_nobody_0 : List UInt8 := dkwX0_nobody_0 ++ dktX0_nobody_1
theorem dksX0_nobody_0 : cX0_nobody.data.toList.drop 0 = dktX0_nobody_0 := by decide +kernel
theorem dksX0_nobody_1 : cX0_nobody.data.toList.drop 24 = dktX0_nobody_1 := dk_seg dksX0_nobody_0 24 rfl rfl
theorem dX0_nobody_0 : decode cX0_nobody 0 = .ok (.iconst 0, 1) := dk_3 (dk_at dksX0_nobody_0 0 rfl rfl)
theorem dX0_nobody_1 : decode cX0_nobody 1 = .ok (.istore_n 1, 1) := dk_60 (dk_at dksX0_nobody_0 1 rfl rfl)
theorem dX0_nobody_2 : decode cX0_nobody 2 = .ok (.iconst 0, 1) := dk_3 (dk_at dksX0_nobody_0 2 rfl rfl)
theorem dX0_nobody_3 : decode cX0_nobody 3 = .ok (.istore_n 2, 1) := dk_61 (dk_at dksX0_nobody_0 3 rfl rfl)
theorem dX0_nobody_4 : decode cX0_nobody 4 = .ok (.iload_n 2, 1) := dk_28 (dk_at dksX0_nobody_0 4 rfl rfl)
theorem dX0_nobody_5 : decode cX0_nobody 5 = .ok (.aload_n 0, 1) := dk_42 (dk_at dksX0_nobody_0 5 rfl rfl)
theorem dX0_nobody_6 : decode cX0_nobody 6 = .ok (.getfield 15, 3) := dk_180 0 15 (dk_at dksX0_nobody_0 6 rfl rfl)
theorem dX0_nobody_9 : decode cX0_nobody 9 = .ok (.if_icmp .ge 36, 3) := dk_162 0 36 (dk_at dksX0_nobody_0 9 rfl rfl)
theorem dX0_nobody_12 : decode cX0_nobody 12 = .ok (.iload_n 1, 1) := dk_27 (dk_at dksX0_nobody_0 12 rfl rfl)
theorem dX0_nobody_13 : decode cX0_nobody 13 = .ok (.aload_n 0, 1) := dk_42 (dk_at dksX0_nobody_0 13 rfl rfl)
theorem dX0_nobody_14 : decode cX0_nobody 14 = .ok (.getfield 66, 3) := dk_180 0 66 (dk_at dksX0_nobody_0 14 rfl rfl)
theorem dX0_nobody_17 : decode cX0_nobody 17 = .ok (.iload_n 2, 1) := dk_28 (dk_at dksX0_nobody_0 17 rfl rfl)
theorem dX0_nobody_18 : decode cX0_nobody 18 = .ok (.iaload, 1) := dk_46 (dk_at dksX0_nobody_0 18 rfl rfl)
theorem dX0_nobody_19 : decode cX0_nobody 19 = .ok (.ifCond .ne 17, 3) := dk_154 0 17 (dk_at dksX0_nobody_0 19 rfl rfl)
theorem dX0_nobody_22 : decode cX0_nobody 22 = .ok (.aload_n 0, 1) := dk_42 (dk_at dksX0_nobody_0 22 rfl rfl)
theorem dX0_nobody_23 : decode cX0_nobody 23 = .ok (.iload_n 2, 1) := dk_28 (dk_at dksX0_nobody_0 23 rfl rfl)
theorem dX0_nobody_24 : decode cX0_nobody 24 = .ok (.invokevirtual 113, 3) := dk_182 0 113 (dk_at dksX0_nobody_1 0 rfl rfl)
theorem dX0_nobody_27 : decode cX0_nobody 27 = .ok (.ifCond .ne 9, 3) := dk_154 0 9 (dk_at dksX0_nobody_1 3 rfl rfl)
theorem dX0_nobody_30 : decode cX0_nobody 30 = .ok (.iconst 1, 1) := dk_4 (dk_at dksX0_nobody_1 6 rfl rfl)
theorem dX0_nobody_31 : decode cX0_nobody 31 = .ok (.iload_n 2, 1) := dk_28 (dk_at dksX0_nobody_1 7 rfl rfl)
theorem dX0_nobody_32 : decode cX0_nobody 32 = .ok (.ishl, 1) := dk_120 (dk_at dksX0_nobody_1 8 rfl rfl)
theorem dX0_nobody_33 : decode cX0_nobody 33 = .ok (.goto 4, 3) := dk_167 0 4 (dk_at dksX0_nobody_1 9 rfl rfl)
theorem dX0_nobody_36 : decode cX0_nobody 36 = .ok (.iconst 0, 1) := dk_3 (dk_at dksX0_nobody_1 12 rfl rfl)
theorem dX0_nobody_37 : decode cX0_nobody 37 = .ok (.ior, 1) := dk_128 (dk_at dksX0_nobody_1 13 rfl rfl)
theorem dX0_nobody_38 : decode cX0_nobody 38 = .ok (.istore_n 1, 1) := dk_60 (dk_at dksX0_nobody_1 14 rfl rfl)
theorem dX0_nobody_39 : decode cX0_nobody 39 = .ok (.iinc 2 1, 3) := dk_132 2 1 (dk_at dksX0_nobody_1 15 rfl rfl)
theorem dX0_nobody_42 : decode cX0_nobody 42 = .ok (.goto (-38), 3) := dk_167 255 218 (dk_at dksX0_nobody_1 18 rfl rfl)
theorem dX0_nobody_45 : decode cX0_nobody 45 = .ok (.iload_n 1, 1) := dk_27 (dk_at dksX0_nobody_1 21 rfl rfl)
theorem dX0_nobody_46 : decode cX0_nobody 46 = .ok (.ireturn, 1) := dk_172 (dk_at dksX0_nobody_1 22 rfl rfl)
abbrev cX0_callAt : ByteArray := prog_1_method_50_code
def yX0_callAt : MethodName := ⟨RX0, "callAt", "(I)I"⟩
def dkwX0_callAt_4 : List UInt8 := [172, 58, 5, 42, 28, 181, 0, 116, 25, 5, 191]
abbrev dktX0_callAt_4 : List UInt8 := dkwX0_callAt_4 ++ []
def dkwX0_callAt_3 : List UInt8 := [54, 4, 42, 28, 181, 0, 116, 21, 4, 172, 132, 3, 1, 167, 255, 202, 2, 62, 42, 28, 181, 0, 116, 29]
abbrev dktX0_callAt_3 : List UInt8 := dkwX0_callAt_3 ++ dktX0_callAt_4
def dkwX0_callAt_2 : List UInt8 := [42, 27, 182, 1, 106, 96, 42, 27, 182, 1, 97, 161, 0, 22, 42, 27, 182, 0, 113, 153, 0, 14, 29]
abbrev dktX0_callAt_2 : List UInt8 := dkwX0_callAt_2 ++ dktX0_callAt_3
def dkwX0_callAt_1 : List UInt8 := [180, 0, 116, 61, 3, 62, 29, 17, 0, 240, 163, 0, 53, 42, 28, 29, 96, 181, 0, 116, 42, 180, 0, 116]
abbrev dktX0_callAt_1 : List UInt8 := dkwX0_callAt_1 ++ dktX0_callAt_2
def dkwX0_callAt_0 : List UInt8 := [42, 27, 182, 0, 72, 154, 0, 6, 16, 254, 172, 42, 180, 0, 66, 27, 46, 153, 0, 6, 16, 253, 172, 42]
abbrev dktX0_callAt_0 : List UInt8 := dkwX0_callAt_0 ++ dktX0_callAt_1
theorem dksX0_callAt_0 : cX0_callAt.data.toList.drop 0 = dktX0_callAt_0 := by decide +kernel
theorem dksX0_callAt_1 : cX0_callAt.data.toList.drop 24 = dktX0_callAt_1 := dk_seg dksX0_callAt_0 24 rfl rfl
theorem dksX0_callAt_2 : cX0_callAt.data.toList.drop 48 = dktX0_callAt_2 := dk_seg dksX0_callAt_1 24 rfl rfl
theorem dksX0_callAt_3 : cX0_callAt.data.toList.drop 71 = dktX0_callAt_3 := dk_seg dksX0_callAt_2 23 rfl rfl
theorem dksX0_callAt_4 : cX0_callAt.data.toList.drop 95 = dktX0_callAt_4 := dk_seg dksX0_callAt_3 24 rfl rfl
theorem dX0_callAt_0 : decode cX0_callAt 0 = .ok (.aload_n 0, 1) := dk_42 (dk_at dksX0_callAt_0 0 rfl rfl)
theorem dX0_callAt_1 : decode cX0_callAt 1 = .ok (.iload_n 1, 1) := dk_27 (dk_at dksX0_callAt_0 1 rfl rfl)
theorem dX0_callAt_2 : decode cX0_callAt 2 = .ok (.invokevirtual 72, 3) := dk_182 0 72 (dk_at dksX0_callAt_0 2 rfl rfl)
theorem dX0_callAt_5 : decode cX0_callAt 5 = .ok (.ifCond .ne 6, 3) := dk_154 0 6 (dk_at dksX0_callAt_0 5 rfl rfl)
theorem dX0_callAt_8 : decode cX0_callAt 8 = .ok (.bipush (-2), 2) := dk_16 254 (dk_at dksX0_callAt_0 8 rfl rfl)
theorem dX0_callAt_10 : decode cX0_callAt 10 = .ok (.ireturn, 1) := dk_172 (dk_at dksX0_callAt_0 10 rfl rfl)
theorem dX0_callAt_11 : decode cX0_callAt 11 = .ok (.aload_n 0, 1) := dk_42 (dk_at dksX0_callAt_0 11 rfl rfl)
theorem dX0_callAt_12 : decode cX0_callAt 12 = .ok (.getfield 66, 3) := dk_180 0 66 (dk_at dksX0_callAt_0 12 rfl rfl)
theorem dX0_callAt_15 : decode cX0_callAt 15 = .ok (.iload_n 1, 1) := dk_27 (dk_at dksX0_callAt_0 15 rfl rfl)
theorem dX0_callAt_16 : decode cX0_callAt 16 = .ok (.iaload, 1) := dk_46 (dk_at dksX0_callAt_0 16 rfl rfl)
theorem dX0_callAt_17 : decode cX0_callAt 17 = .ok (.ifCond .eq 6, 3) := dk_153 0 6 (dk_at dksX0_callAt_0 17 rfl rfl)
theorem dX0_callAt_20 : decode cX0_callAt 20 = .ok (.bipush (-3), 2) := dk_16 253 (dk_at dksX0_callAt_0 20 rfl rfl)
theorem dX0_callAt_22 : decode cX0_callAt 22 = .ok (.ireturn, 1) := dk_172 (dk_at dksX0_callAt_0 22 rfl rfl)
theorem dX0_callAt_23 : decode cX0_callAt 23 = .ok (.aload_n 0, 1) := dk_42 (dk_at dksX0_callAt_0 23 rfl rfl)
theorem dX0_callAt_24 : decode cX0_callAt 24 = .ok (.getfield 116, 3) := dk_180 0 116 (dk_at dksX0_callAt_1 0 rfl rfl)
theorem dX0_callAt_27 : decode cX0_callAt 27 = .ok (.istore_n 2, 1) := dk_61 (dk_at dksX0_callAt_1 3 rfl rfl)
theorem dX0_callAt_28 : decode cX0_callAt 28 = .ok (.iconst 0, 1) := dk_3 (dk_at dksX0_callAt_1 4 rfl rfl)
theorem dX0_callAt_29 : decode cX0_callAt 29 = .ok (.istore_n 3, 1) := dk_62 (dk_at dksX0_callAt_1 5 rfl rfl)
theorem dX0_callAt_30 : decode cX0_callAt 30 = .ok (.iload_n 3, 1) := dk_29 (dk_at dksX0_callAt_1 6 rfl rfl)
theorem dX0_callAt_31 : decode cX0_callAt 31 = .ok (.sipush 240, 3) := dk_17 0 240 (dk_at dksX0_callAt_1 7 rfl rfl)
theorem dX0_callAt_34 : decode cX0_callAt 34 = .ok (.if_icmp .gt 53, 3) := dk_163 0 53 (dk_at dksX0_callAt_1 10 rfl rfl)
theorem dX0_callAt_37 : decode cX0_callAt 37 = .ok (.aload_n 0, 1) := dk_42 (dk_at dksX0_callAt_1 13 rfl rfl)
theorem dX0_callAt_38 : decode cX0_callAt 38 = .ok (.iload_n 2, 1) := dk_28 (dk_at dksX0_callAt_1 14 rfl rfl)
theorem dX0_callAt_39 : decode cX0_callAt 39 = .ok (.iload_n 3, 1) := dk_29 (dk_at dksX0_callAt_1 15 rfl rfl)
theorem dX0_callAt_40 : decode cX0_callAt 40 = .ok (.iadd, 1) := dk_96 (dk_at dksX0_callAt_1 16 rfl rfl)
theorem dX0_callAt_41 : decode cX0_callAt 41 = .ok (.putfield 116, 3) := dk_181 0 116 (dk_at dksX0_callAt_1 17 rfl rfl)
theorem dX0_callAt_44 : decode cX0_callAt 44 = .ok (.aload_n 0, 1) := dk_42 (dk_at dksX0_callAt_1 20 rfl rfl)
theorem dX0_callAt_45 : decode cX0_callAt 45 = .ok (.getfield 116, 3) := dk_180 0 116 (dk_at dksX0_callAt_1 21 rfl rfl)
theorem dX0_callAt_48 : decode cX0_callAt 48 = .ok (.aload_n 0, 1) := dk_42 (dk_at dksX0_callAt_2 0 rfl rfl)
theorem dX0_callAt_49 : decode cX0_callAt 49 = .ok (.iload_n 1, 1) := dk_27 (dk_at dksX0_callAt_2 1 rfl rfl)
theorem dX0_callAt_50 : decode cX0_callAt 50 = .ok (.invokevirtual 362, 3) := dk_182 1 106 (dk_at dksX0_callAt_2 2 rfl rfl)
theorem dX0_callAt_53 : decode cX0_callAt 53 = .ok (.iadd, 1) := dk_96 (dk_at dksX0_callAt_2 5 rfl rfl)
theorem dX0_callAt_54 : decode cX0_callAt 54 = .ok (.aload_n 0, 1) := dk_42 (dk_at dksX0_callAt_2 6 rfl rfl)
theorem dX0_callAt_55 : decode cX0_callAt 55 = .ok (.iload_n 1, 1) := dk_27 (dk_at dksX0_callAt_2 7 rfl rfl)
theorem dX0_callAt_56 : decode cX0_callAt 56 = .ok (.invokevirtual 353, 3) := dk_182 1 97 (dk_at dksX0_callAt_2 8 rfl rfl)
theorem dX0_callAt_59 : decode cX0_callAt 59 = .ok (.if_icmp .lt 22, 3) := dk_161 0 22 (dk_at dksX0_callAt_2 11 rfl rfl)
theorem dX0_callAt_62 : decode cX0_callAt 62 = .ok (.aload_n 0, 1) := dk_42 (dk_at dksX0_callAt_2 14 rfl rfl)
theorem dX0_callAt_63 : decode cX0_callAt 63 = .ok (.iload_n 1, 1) := dk_27 (dk_at dksX0_callAt_2 15 rfl rfl)
theorem dX0_callAt_64 : decode cX0_callAt 64 = .ok (.invokevirtual 113, 3) := dk_182 0 113 (dk_at dksX0_callAt_2 16 rfl rfl)
theorem dX0_callAt_67 : decode cX0_callAt 67 = .ok (.ifCond .eq 14, 3) := dk_153 0 14 (dk_at dksX0_callAt_2 19 rfl rfl)
theorem dX0_callAt_70 : decode cX0_callAt 70 = .ok (.iload_n 3, 1) := dk_29 (dk_at dksX0_callAt_2 22 rfl rfl)
theorem dX0_callAt_71 : decode cX0_callAt 71 = .ok (.istore 4, 2) := dk_54 4 (dk_at dksX0_callAt_3 0 rfl rfl)
theorem dX0_callAt_73 : decode cX0_callAt 73 = .ok (.aload_n 0, 1) := dk_42 (dk_at dksX0_callAt_3 2 rfl rfl)
theorem dX0_callAt_74 : decode cX0_callAt 74 = .ok (.iload_n 2, 1) := dk_28 (dk_at dksX0_callAt_3 3 rfl rfl)
theorem dX0_callAt_75 : decode cX0_callAt 75 = .ok (.putfield 116, 3) := dk_181 0 116 (dk_at dksX0_callAt_3 4 rfl rfl)
theorem dX0_callAt_78 : decode cX0_callAt 78 = .ok (.iload 4, 2) := dk_21 4 (dk_at dksX0_callAt_3 7 rfl rfl)
theorem dX0_callAt_80 : decode cX0_callAt 80 = .ok (.ireturn, 1) := dk_172 (dk_at dksX0_callAt_3 9 rfl rfl)
theorem dX0_callAt_81 : decode cX0_callAt 81 = .ok (.iinc 3 1, 3) := dk_132 3 1 (dk_at dksX0_callAt_3 10 rfl rfl)
theorem dX0_callAt_84 : decode cX0_callAt 84 = .ok (.goto (-54), 3) := dk_167 255 202 (dk_at dksX0_callAt_3 13 rfl rfl)
theorem dX0_callAt_87 : decode cX0_callAt 87 = .ok (.iconst (-1), 1) := dk_2 (dk_at dksX0_callAt_3 16 rfl rfl)
theorem dX0_callAt_88 : decode cX0_callAt 88 = .ok (.istore_n 3, 1) := dk_62 (dk_at dksX0_callAt_3 17 rfl rfl)
theorem dX0_callAt_89 : decode cX0_callAt 89 = .ok (.aload_n 0, 1) := dk_42 (dk_at dksX0_callAt_3 18 rfl rfl)
theorem dX0_callAt_90 : decode cX0_callAt 90 = .ok (.iload_n 2, 1) := dk_28 (dk_at dksX0_callAt_3 19 rfl rfl)
theorem dX0_callAt_91 : decode cX0_callAt 91 = .ok (.putfield 116, 3) := dk_181 0 116 (dk_at dksX0_callAt_3 20 rfl rfl)
theorem dX0_callAt_94 : decode cX0_callAt 94 = .ok (.iload_n 3, 1) := dk_29 (dk_at dksX0_callAt_3 23 rfl rfl)
theorem dX0_callAt_95 : decode cX0_callAt 95 = .ok (.ireturn, 1) := dk_172 (dk_at dksX0_callAt_4 0 rfl rfl)
theorem dX0_callAt_96 : decode cX0_callAt 96 = .ok (.astore 5, 2) := dk_58 5 (dk_at dksX0_callAt_4 1 rfl rfl)
theorem dX0_callAt_98 : decode cX0_callAt 98 = .ok (.aload_n 0, 1) := dk_42 (dk_at dksX0_callAt_4 3 rfl rfl)
theorem dX0_callAt_99 : decode cX0_callAt 99 = .ok (.iload_n 2, 1) := dk_28 (dk_at dksX0_callAt_4 4 rfl rfl)
theorem dX0_callAt_100 : decode cX0_callAt 100 = .ok (.putfield 116, 3) := dk_181 0 116 (dk_at dksX0_callAt_4 5 rfl rfl)
theorem dX0_callAt_103 : decode cX0_callAt 103 = .ok (.aload 5, 2) := dk_25 5 (dk_at dksX0_callAt_4 8 rfl rfl)
theorem dX0_callAt_105 : decode cX0_callAt 105 = .ok (.athrow, 1) := dk_191 (dk_at dksX0_callAt_4 10 rfl rfl)
abbrev cX0_allIn : ByteArray := prog_1_method_52_code
def yX0_allIn : MethodName := ⟨RX0, "allIn", "()I"⟩
def dkwX0_allIn_1 : List UInt8 := [60, 132, 2, 1, 167, 255, 235, 27, 172]
abbrev dktX0_allIn_1 : List UInt8 := dkwX0_allIn_1 ++ []
def dkwX0_allIn_0 : List UInt8 := [42, 180, 0, 116, 60, 3, 61, 28, 42, 180, 0, 15, 162, 0, 19, 27, 42, 28, 182, 1, 119, 184, 1, 89]
abbrev dktX0_allIn_0 : List UInt8 := dkwX0_allIn_0 ++ dktX0_allIn_1
theorem dksX0_allIn_0 : cX0_allIn.data.toList.drop 0 = dktX0_allIn_0 := by decide +kernel
theorem dksX0_allIn_1 : cX0_allIn.data.toList.drop 24 = dktX0_allIn_1 := dk_seg dksX0_allIn_0 24 rfl rfl
theorem dX0_allIn_0 : decode cX0_allIn 0 = .ok (.aload_n 0, 1) := dk_42 (dk_at dksX0_allIn_0 0 rfl rfl)
theorem dX0_allIn_1 : decode cX0_allIn 1 = .ok (.getfield 116, 3) := dk_180 0 116 (dk_at dksX0_allIn_0 1 rfl rfl)
theorem dX0_allIn_4 : decode cX0_allIn 4 = .ok (.istore_n 1, 1) := dk_60 (dk_at dksX0_allIn_0 4 rfl rfl)
theorem dX0_allIn_5 : decode cX0_allIn 5 = .ok (.iconst 0, 1) := dk_3 (dk_at dksX0_allIn_0 5 rfl rfl)
theorem dX0_allIn_6 : decode cX0_allIn 6 = .ok (.istore_n 2, 1) := dk_61 (dk_at dksX0_allIn_0 6 rfl rfl)
theorem dX0_allIn_7 : decode cX0_allIn 7 = .ok (.iload_n 2, 1) := dk_28 (dk_at dksX0_allIn_0 7 rfl rfl)
theorem dX0_allIn_8 : decode cX0_allIn 8 = .ok (.aload_n 0, 1) := dk_42 (dk_at dksX0_allIn_0 8 rfl rfl)
theorem dX0_allIn_9 : decode cX0_allIn 9 = .ok (.getfield 15, 3) := dk_180 0 15 (dk_at dksX0_allIn_0 9 rfl rfl)
theorem dX0_allIn_12 : decode cX0_allIn 12 = .ok (.if_icmp .ge 19, 3) := dk_162 0 19 (dk_at dksX0_allIn_0 12 rfl rfl)
theorem dX0_allIn_15 : decode cX0_allIn 15 = .ok (.iload_n 1, 1) := dk_27 (dk_at dksX0_allIn_0 15 rfl rfl)
theorem dX0_allIn_16 : decode cX0_allIn 16 = .ok (.aload_n 0, 1) := dk_42 (dk_at dksX0_allIn_0 16 rfl rfl)
theorem dX0_allIn_17 : decode cX0_allIn 17 = .ok (.iload_n 2, 1) := dk_28 (dk_at dksX0_allIn_0 17 rfl rfl)
theorem dX0_allIn_18 : decode cX0_allIn 18 = .ok (.invokevirtual 375, 3) := dk_182 1 119 (dk_at dksX0_allIn_0 18 rfl rfl)
theorem dX0_allIn_21 : decode cX0_allIn 21 = .ok (.invokestatic 345, 3) := dk_184 1 89 (dk_at dksX0_allIn_0 21 rfl rfl)
theorem dX0_allIn_24 : decode cX0_allIn 24 = .ok (.istore_n 1, 1) := dk_60 (dk_at dksX0_allIn_1 0 rfl rfl)
theorem dX0_allIn_25 : decode cX0_allIn 25 = .ok (.iinc 2 1, 3) := dk_132 2 1 (dk_at dksX0_allIn_1 1 rfl rfl)
theorem dX0_allIn_28 : decode cX0_allIn 28 = .ok (.goto (-21), 3) := dk_167 255 235 (dk_at dksX0_allIn_1 4 rfl rfl)
theorem dX0_allIn_31 : decode cX0_allIn 31 = .ok (.iload_n 1, 1) := dk_27 (dk_at dksX0_allIn_1 7 rfl rfl)
theorem dX0_allIn_32 : decode cX0_allIn 32 = .ok (.ireturn, 1) := dk_172 (dk_at dksX0_allIn_1 8 rfl rfl)
abbrev cX0_wouldBeIn : ByteArray := prog_1_method_51_code
def yX0_wouldBeIn : MethodName := ⟨RX0, "wouldBeIn", "(I)I"⟩
def dkwX0_wouldBeIn_2 : List UInt8 := [167, 0, 4, 2, 172]
abbrev dktX0_wouldBeIn_2 : List UInt8 := dkwX0_wouldBeIn_2 ++ []
def dkwX0_wouldBeIn_1 : List UInt8 := [46, 154, 0, 24, 42, 27, 182, 0, 113, 153, 0, 16, 42, 180, 0, 116, 42, 27, 182, 1, 106, 96]
abbrev dktX0_wouldBeIn_1 : List UInt8 := dkwX0_wouldBeIn_1 ++ dktX0_wouldBeIn_2
def dkwX0_wouldBeIn_0 : List UInt8 := [42, 180, 0, 66, 27, 46, 4, 160, 0, 12, 42, 180, 0, 69, 27, 46, 167, 0, 34, 42, 180, 0, 66, 27]
abbrev dktX0_wouldBeIn_0 : List UInt8 := dkwX0_wouldBeIn_0 ++ dktX0_wouldBeIn_1
theorem dksX0_wouldBeIn_0 : cX0_wouldBeIn.data.toList.drop 0 = dktX0_wouldBeIn_0 := by decide +kernel
theorem dksX0_wouldBeIn_1 : cX0_wouldBeIn.data.toList.drop 24 = dktX0_wouldBeIn_1 := dk_seg dksX0_wouldBeIn_0 24 rfl rfl
theorem dksX0_wouldBeIn_2 : cX0_wouldBeIn.data.toList.drop 46 = dktX0_wouldBeIn_2 := dk_seg dksX0_wouldBeIn_1 22 rfl rfl
theorem dX0_wouldBeIn_0 : decode cX0_wouldBeIn 0 = .ok (.aload_n 0, 1) := dk_42 (dk_at dksX0_wouldBeIn_0 0 rfl rfl)
theorem dX0_wouldBeIn_1 : decode cX0_wouldBeIn 1 = .ok (.getfield 66, 3) := dk_180 0 66 (dk_at dksX0_wouldBeIn_0 1 rfl rfl)
theorem dX0_wouldBeIn_4 : decode cX0_wouldBeIn 4 = .ok (.iload_n 1, 1) := dk_27 (dk_at dksX0_wouldBeIn_0 4 rfl rfl)
theorem dX0_wouldBeIn_5 : decode cX0_wouldBeIn 5 = .ok (.iaload, 1) := dk_46 (dk_at dksX0_wouldBeIn_0 5 rfl rfl)
theorem dX0_wouldBeIn_6 : decode cX0_wouldBeIn 6 = .ok (.iconst 1, 1) := dk_4 (dk_at dksX0_wouldBeIn_0 6 rfl rfl)
theorem dX0_wouldBeIn_7 : decode cX0_wouldBeIn 7 = .ok (.if_icmp .ne 12, 3) := dk_160 0 12 (dk_at dksX0_wouldBeIn_0 7 rfl rfl)
theorem dX0_wouldBeIn_10 : decode cX0_wouldBeIn 10 = .ok (.aload_n 0, 1) := dk_42 (dk_at dksX0_wouldBeIn_0 10 rfl rfl)
theorem dX0_wouldBeIn_11 : decode cX0_wouldBeIn 11 = .ok (.getfield 69, 3) := dk_180 0 69 (dk_at dksX0_wouldBeIn_0 11 rfl rfl)
theorem dX0_wouldBeIn_14 : decode cX0_wouldBeIn 14 = .ok (.iload_n 1, 1) := dk_27 (dk_at dksX0_wouldBeIn_0 14 rfl rfl)
theorem dX0_wouldBeIn_15 : decode cX0_wouldBeIn 15 = .ok (.iaload, 1) := dk_46 (dk_at dksX0_wouldBeIn_0 15 rfl rfl)
theorem dX0_wouldBeIn_16 : decode cX0_wouldBeIn 16 = .ok (.goto 34, 3) := dk_167 0 34 (dk_at dksX0_wouldBeIn_0 16 rfl rfl)
theorem dX0_wouldBeIn_19 : decode cX0_wouldBeIn 19 = .ok (.aload_n 0, 1) := dk_42 (dk_at dksX0_wouldBeIn_0 19 rfl rfl)
theorem dX0_wouldBeIn_20 : decode cX0_wouldBeIn 20 = .ok (.getfield 66, 3) := dk_180 0 66 (dk_at dksX0_wouldBeIn_0 20 rfl rfl)
theorem dX0_wouldBeIn_23 : decode cX0_wouldBeIn 23 = .ok (.iload_n 1, 1) := dk_27 (dk_at dksX0_wouldBeIn_0 23 rfl rfl)
theorem dX0_wouldBeIn_24 : decode cX0_wouldBeIn 24 = .ok (.iaload, 1) := dk_46 (dk_at dksX0_wouldBeIn_1 0 rfl rfl)
theorem dX0_wouldBeIn_25 : decode cX0_wouldBeIn 25 = .ok (.ifCond .ne 24, 3) := dk_154 0 24 (dk_at dksX0_wouldBeIn_1 1 rfl rfl)
theorem dX0_wouldBeIn_28 : decode cX0_wouldBeIn 28 = .ok (.aload_n 0, 1) := dk_42 (dk_at dksX0_wouldBeIn_1 4 rfl rfl)
theorem dX0_wouldBeIn_29 : decode cX0_wouldBeIn 29 = .ok (.iload_n 1, 1) := dk_27 (dk_at dksX0_wouldBeIn_1 5 rfl rfl)
theorem dX0_wouldBeIn_30 : decode cX0_wouldBeIn 30 = .ok (.invokevirtual 113, 3) := dk_182 0 113 (dk_at dksX0_wouldBeIn_1 6 rfl rfl)
theorem dX0_wouldBeIn_33 : decode cX0_wouldBeIn 33 = .ok (.ifCond .eq 16, 3) := dk_153 0 16 (dk_at dksX0_wouldBeIn_1 9 rfl rfl)
theorem dX0_wouldBeIn_36 : decode cX0_wouldBeIn 36 = .ok (.aload_n 0, 1) := dk_42 (dk_at dksX0_wouldBeIn_1 12 rfl rfl)
theorem dX0_wouldBeIn_37 : decode cX0_wouldBeIn 37 = .ok (.getfield 116, 3) := dk_180 0 116 (dk_at dksX0_wouldBeIn_1 13 rfl rfl)
theorem dX0_wouldBeIn_40 : decode cX0_wouldBeIn 40 = .ok (.aload_n 0, 1) := dk_42 (dk_at dksX0_wouldBeIn_1 16 rfl rfl)
theorem dX0_wouldBeIn_41 : decode cX0_wouldBeIn 41 = .ok (.iload_n 1, 1) := dk_27 (dk_at dksX0_wouldBeIn_1 17 rfl rfl)
theorem dX0_wouldBeIn_42 : decode cX0_wouldBeIn 42 = .ok (.invokevirtual 362, 3) := dk_182 1 106 (dk_at dksX0_wouldBeIn_1 18 rfl rfl)
theorem dX0_wouldBeIn_45 : decode cX0_wouldBeIn 45 = .ok (.iadd, 1) := dk_96 (dk_at dksX0_wouldBeIn_1 21 rfl rfl)
theorem dX0_wouldBeIn_46 : decode cX0_wouldBeIn 46 = .ok (.goto 4, 3) := dk_167 0 4 (dk_at dksX0_wouldBeIn_2 0 rfl rfl)
theorem dX0_wouldBeIn_49 : decode cX0_wouldBeIn 49 = .ok (.iconst (-1), 1) := dk_2 (dk_at dksX0_wouldBeIn_2 3 rfl rfl)
theorem dX0_wouldBeIn_50 : decode cX0_wouldBeIn 50 = .ok (.ireturn, 1) := dk_172 (dk_at dksX0_wouldBeIn_2 4 rfl rfl)
abbrev cX0_fetch : ByteArray := prog_1_method_57_code
def yX0_fetch : MethodName := ⟨RX0, "fetch", "(II)I"⟩
def dkwX0_fetch_2 : List UInt8 := [180, 1, 44, 28, 4, 100, 46, 167, 0, 4, 2, 172]
abbrev dktX0_fetch_2 : List UInt8 := dkwX0_fetch_2 ++ []
def dkwX0_fetch_1 : List UInt8 := [27, 182, 1, 153, 62, 28, 154, 0, 7, 29, 167, 0, 23, 28, 42, 180, 1, 122, 163, 0, 14, 42]
abbrev dktX0_fetch_1 : List UInt8 := dkwX0_fetch_1 ++ dktX0_fetch_2
def dkwX0_fetch_0 : List UInt8 := [42, 27, 182, 1, 148, 153, 0, 15, 28, 133, 9, 20, 1, 151, 184, 0, 5, 154, 0, 6, 16, 254, 172, 42]
abbrev dktX0_fetch_0 : List UInt8 := dkwX0_fetch_0 ++ dktX0_fetch_1
theorem dksX0_fetch_0 : cX0_fetch.data.toList.drop 0 = dktX0_fetch_0 := by decide +kernel
theorem dksX0_fetch_1 : cX0_fetch.data.toList.drop 24 = dktX0_fetch_1 := dk_seg dksX0_fetch_0 24 rfl rfl
theorem dksX0_fetch_2 : cX0_fetch.data.toList.drop 46 = dktX0_fetch_2 := dk_seg dksX0_fetch_1 22 rfl rfl
theorem dX0_fetch_0 : decode cX0_fetch 0 = .ok (.aload_n 0, 1) := dk_42 (dk_at dksX0_fetch_0 0 rfl rfl)
theorem dX0_fetch_1 : decode cX0_fetch 1 = .ok (.iload_n 1, 1) := dk_27 (dk_at dksX0_fetch_0 1 rfl rfl)
theorem dX0_fetch_2 : decode cX0_fetch 2 = .ok (.invokevirtual 404, 3) := dk_182 1 148 (dk_at dksX0_fetch_0 2 rfl rfl)
theorem dX0_fetch_5 : decode cX0_fetch 5 = .ok (.ifCond .eq 15, 3) := dk_153 0 15 (dk_at dksX0_fetch_0 5 rfl rfl)
theorem dX0_fetch_8 : decode cX0_fetch 8 = .ok (.iload_n 2, 1) := dk_28 (dk_at dksX0_fetch_0 8 rfl rfl)
theorem dX0_fetch_9 : decode cX0_fetch 9 = .ok (.i2l, 1) := dk_133 (dk_at dksX0_fetch_0 9 rfl rfl)
theorem dX0_fetch_10 : decode cX0_fetch 10 = .ok (.lconst 0, 1) := dk_9 (dk_at dksX0_fetch_0 10 rfl rfl)
theorem dX0_fetch_11 : decode cX0_fetch 11 = .ok (.ldc2_w 407, 3) := dk_20 1 151 (dk_at dksX0_fetch_0 11 rfl rfl)
theorem dX0_fetch_14 : decode cX0_fetch 14 = .ok (.invokestatic 5, 3) := dk_184 0 5 (dk_at dksX0_fetch_0 14 rfl rfl)
theorem dX0_fetch_17 : decode cX0_fetch 17 = .ok (.ifCond .ne 6, 3) := dk_154 0 6 (dk_at dksX0_fetch_0 17 rfl rfl)
theorem dX0_fetch_20 : decode cX0_fetch 20 = .ok (.bipush (-2), 2) := dk_16 254 (dk_at dksX0_fetch_0 20 rfl rfl)
theorem dX0_fetch_22 : decode cX0_fetch 22 = .ok (.ireturn, 1) := dk_172 (dk_at dksX0_fetch_0 22 rfl rfl)
theorem dX0_fetch_23 : decode cX0_fetch 23 = .ok (.aload_n 0, 1) := dk_42 (dk_at dksX0_fetch_0 23 rfl rfl)
theorem dX0_fetch_24 : decode cX0_fetch 24 = .ok (.iload_n 1, 1) := dk_27 (dk_at dksX0_fetch_1 0 rfl rfl)
theorem dX0_fetch_25 : decode cX0_fetch 25 = .ok (.invokevirtual 409, 3) := dk_182 1 153 (dk_at dksX0_fetch_1 1 rfl rfl)
theorem dX0_fetch_28 : decode cX0_fetch 28 = .ok (.istore_n 3, 1) := dk_62 (dk_at dksX0_fetch_1 4 rfl rfl)
theorem dX0_fetch_29 : decode cX0_fetch 29 = .ok (.iload_n 2, 1) := dk_28 (dk_at dksX0_fetch_1 5 rfl rfl)
theorem dX0_fetch_30 : decode cX0_fetch 30 = .ok (.ifCond .ne 7, 3) := dk_154 0 7 (dk_at dksX0_fetch_1 6 rfl rfl)
theorem dX0_fetch_33 : decode cX0_fetch 33 = .ok (.iload_n 3, 1) := dk_29 (dk_at dksX0_fetch_1 9 rfl rfl)
theorem dX0_fetch_34 : decode cX0_fetch 34 = .ok (.goto 23, 3) := dk_167 0 23 (dk_at dksX0_fetch_1 10 rfl rfl)
theorem dX0_fetch_37 : decode cX0_fetch 37 = .ok (.iload_n 2, 1) := dk_28 (dk_at dksX0_fetch_1 13 rfl rfl)
theorem dX0_fetch_38 : decode cX0_fetch 38 = .ok (.aload_n 0, 1) := dk_42 (dk_at dksX0_fetch_1 14 rfl rfl)
theorem dX0_fetch_39 : decode cX0_fetch 39 = .ok (.getfield 378, 3) := dk_180 1 122 (dk_at dksX0_fetch_1 15 rfl rfl)
theorem dX0_fetch_42 : decode cX0_fetch 42 = .ok (.if_icmp .gt 14, 3) := dk_163 0 14 (dk_at dksX0_fetch_1 18 rfl rfl)
theorem dX0_fetch_45 : decode cX0_fetch 45 = .ok (.aload_n 0, 1) := dk_42 (dk_at dksX0_fetch_1 21 rfl rfl)
theorem dX0_fetch_46 : decode cX0_fetch 46 = .ok (.getfield 300, 3) := dk_180 1 44 (dk_at dksX0_fetch_2 0 rfl rfl)
theorem dX0_fetch_49 : decode cX0_fetch 49 = .ok (.iload_n 2, 1) := dk_28 (dk_at dksX0_fetch_2 3 rfl rfl)
theorem dX0_fetch_50 : decode cX0_fetch 50 = .ok (.iconst 1, 1) := dk_4 (dk_at dksX0_fetch_2 4 rfl rfl)
theorem dX0_fetch_51 : decode cX0_fetch 51 = .ok (.isub, 1) := dk_100 (dk_at dksX0_fetch_2 5 rfl rfl)
theorem dX0_fetch_52 : decode cX0_fetch 52 = .ok (.iaload, 1) := dk_46 (dk_at dksX0_fetch_2 6 rfl rfl)
theorem dX0_fetch_53 : decode cX0_fetch 53 = .ok (.goto 4, 3) := dk_167 0 4 (dk_at dksX0_fetch_2 7 rfl rfl)
theorem dX0_fetch_56 : decode cX0_fetch 56 = .ok (.iconst (-1), 1) := dk_2 (dk_at dksX0_fetch_2 10 rfl rfl)
theorem dX0_fetch_57 : decode cX0_fetch 57 = .ok (.ireturn, 1) := dk_172 (dk_at dksX0_fetch_2 11 rfl rfl)
abbrev cX0_isFetched : ByteArray := prog_1_method_56_code
def yX0_isFetched : MethodName := ⟨RX0, "isFetched", "(I)Z"⟩
def dkwX0_isFetched_1 : List UInt8 := [130, 126, 154, 0, 7, 4, 167, 0, 4, 3, 172]
abbrev dktX0_isFetched_1 : List UInt8 := dkwX0_isFetched_1 ++ []
def dkwX0_isFetched_0 : List UInt8 := [27, 133, 9, 4, 42, 180, 0, 15, 120, 4, 100, 133, 184, 0, 5, 153, 0, 18, 27, 42, 182, 1, 145, 2]
abbrev dktX0_isFetched_0 : List UInt8 := dkwX0_isFetched_0 ++ dktX0_isFetched_1
theorem dksX0_isFetched_0 : cX0_isFetched.data.toList.drop 0 = dktX0_isFetched_0 := by decide +kernel
theorem dksX0_isFetched_1 : cX0_isFetched.data.toList.drop 24 = dktX0_isFetched_1 := dk_seg dksX0_isFetched_0 24 rfl rfl
theorem dX0_isFetched_0 : decode cX0_isFetched 0 = .ok (.iload_n 1, 1) := dk_27 (dk_at dksX0_isFetched_0 0 rfl rfl)
theorem dX0_isFetched_1 : decode cX0_isFetched 1 = .ok (.i2l, 1) := dk_133 (dk_at dksX0_isFetched_0 1 rfl rfl)
theorem dX0_isFetched_2 : decode cX0_isFetched 2 = .ok (.lconst 0, 1) := dk_9 (dk_at dksX0_isFetched_0 2 rfl rfl)
theorem dX0_isFetched_3 : decode cX0_isFetched 3 = .ok (.iconst 1, 1) := dk_4 (dk_at dksX0_isFetched_0 3 rfl rfl)
theorem dX0_isFetched_4 : decode cX0_isFetched 4 = .ok (.aload_n 0, 1) := dk_42 (dk_at dksX0_isFetched_0 4 rfl rfl)
theorem dX0_isFetched_5 : decode cX0_isFetched 5 = .ok (.getfield 15, 3) := dk_180 0 15 (dk_at dksX0_isFetched_0 5 rfl rfl)
theorem dX0_isFetched_8 : decode cX0_isFetched 8 = .ok (.ishl, 1) := dk_120 (dk_at dksX0_isFetched_0 8 rfl rfl)
theorem dX0_isFetched_9 : decode cX0_isFetched 9 = .ok (.iconst 1, 1) := dk_4 (dk_at dksX0_isFetched_0 9 rfl rfl)
theorem dX0_isFetched_10 : decode cX0_isFetched 10 = .ok (.isub, 1) := dk_100 (dk_at dksX0_isFetched_0 10 rfl rfl)
theorem dX0_isFetched_11 : decode cX0_isFetched 11 = .ok (.i2l, 1) := dk_133 (dk_at dksX0_isFetched_0 11 rfl rfl)
theorem dX0_isFetched_12 : decode cX0_isFetched 12 = .ok (.invokestatic 5, 3) := dk_184 0 5 (dk_at dksX0_isFetched_0 12 rfl rfl)
theorem dX0_isFetched_15 : decode cX0_isFetched 15 = .ok (.ifCond .eq 18, 3) := dk_153 0 18 (dk_at dksX0_isFetched_0 15 rfl rfl)
theorem dX0_isFetched_18 : decode cX0_isFetched 18 = .ok (.iload_n 1, 1) := dk_27 (dk_at dksX0_isFetched_0 18 rfl rfl)
theorem dX0_isFetched_19 : decode cX0_isFetched 19 = .ok (.aload_n 0, 1) := dk_42 (dk_at dksX0_isFetched_0 19 rfl rfl)
theorem dX0_isFetched_20 : decode cX0_isFetched 20 = .ok (.invokevirtual 401, 3) := dk_182 1 145 (dk_at dksX0_isFetched_0 20 rfl rfl)
theorem dX0_isFetched_23 : decode cX0_isFetched 23 = .ok (.iconst (-1), 1) := dk_2 (dk_at dksX0_isFetched_0 23 rfl rfl)
theorem dX0_isFetched_24 : decode cX0_isFetched 24 = .ok (.ixor, 1) := dk_130 (dk_at dksX0_isFetched_1 0 rfl rfl)
theorem dX0_isFetched_25 : decode cX0_isFetched 25 = .ok (.iand, 1) := dk_126 (dk_at dksX0_isFetched_1 1 rfl rfl)
theorem dX0_isFetched_26 : decode cX0_isFetched 26 = .ok (.ifCond .ne 7, 3) := dk_154 0 7 (dk_at dksX0_isFetched_1 2 rfl rfl)
theorem dX0_isFetched_29 : decode cX0_isFetched 29 = .ok (.iconst 1, 1) := dk_4 (dk_at dksX0_isFetched_1 5 rfl rfl)
theorem dX0_isFetched_30 : decode cX0_isFetched 30 = .ok (.goto 4, 3) := dk_167 0 4 (dk_at dksX0_isFetched_1 6 rfl rfl)
theorem dX0_isFetched_33 : decode cX0_isFetched 33 = .ok (.iconst 0, 1) := dk_3 (dk_at dksX0_isFetched_1 9 rfl rfl)
theorem dX0_isFetched_34 : decode cX0_isFetched 34 = .ok (.ireturn, 1) := dk_172 (dk_at dksX0_isFetched_1 10 rfl rfl)
abbrev cX0_onLake : ByteArray := prog_1_method_48_code
def yX0_onLake : MethodName := ⟨RX0, "onLake", "()I"⟩
def dkwX0_onLake_1 : List UInt8 := [120, 167, 0, 4, 3, 128, 60, 132, 2, 1, 167, 255, 226, 27, 172]
abbrev dktX0_onLake_1 : List UInt8 := dkwX0_onLake_1 ++ []
def dkwX0_onLake_0 : List UInt8 := [3, 60, 3, 61, 28, 42, 180, 0, 15, 162, 0, 28, 27, 42, 180, 0, 66, 28, 46, 154, 0, 9, 4, 28]
abbrev dktX0_onLake_0 : List UInt8 := dkwX0_onLake_0 ++ dktX0_onLake_1
theorem dksX0_onLake_0 : cX0_onLake.data.toList.drop 0 = dktX0_onLake_0 := by decide +kernel
theorem dksX0_onLake_1 : cX0_onLake.data.toList.drop 24 = dktX0_onLake_1 := dk_seg dksX0_onLake_0 24 rfl rfl
theorem dX0_onLake_0 : decode cX0_onLake 0 = .ok (.iconst 0, 1) := dk_3 (dk_at dksX0_onLake_0 0 rfl rfl)
theorem dX0_onLake_1 : decode cX0_onLake 1 = .ok (.istore_n 1, 1) := dk_60 (dk_at dksX0_onLake_0 1 rfl rfl)
theorem dX0_onLake_2 : decode cX0_onLake 2 = .ok (.iconst 0, 1) := dk_3 (dk_at dksX0_onLake_0 2 rfl rfl)
theorem dX0_onLake_3 : decode cX0_onLake 3 = .ok (.istore_n 2, 1) := dk_61 (dk_at dksX0_onLake_0 3 rfl rfl)
theorem dX0_onLake_4 : decode cX0_onLake 4 = .ok (.iload_n 2, 1) := dk_28 (dk_at dksX0_onLake_0 4 rfl rfl)
theorem dX0_onLake_5 : decode cX0_onLake 5 = .ok (.aload_n 0, 1) := dk_42 (dk_at dksX0_onLake_0 5 rfl rfl)
theorem dX0_onLake_6 : decode cX0_onLake 6 = .ok (.getfield 15, 3) := dk_180 0 15 (dk_at dksX0_onLake_0 6 rfl rfl)
theorem dX0_onLake_9 : decode cX0_onLake 9 = .ok (.if_icmp .ge 28, 3) := dk_162 0 28 (dk_at dksX0_onLake_0 9 rfl rfl)
theorem dX0_onLake_12 : decode cX0_onLake 12 = .ok (.iload_n 1, 1) := dk_27 (dk_at dksX0_onLake_0 12 rfl rfl)
theorem dX0_onLake_13 : decode cX0_onLake 13 = .ok (.aload_n 0, 1) := dk_42 (dk_at dksX0_onLake_0 13 rfl rfl)
theorem dX0_onLake_14 : decode cX0_onLake 14 = .ok (.getfield 66, 3) := dk_180 0 66 (dk_at dksX0_onLake_0 14 rfl rfl)
theorem dX0_onLake_17 : decode cX0_onLake 17 = .ok (.iload_n 2, 1) := dk_28 (dk_at dksX0_onLake_0 17 rfl rfl)
theorem dX0_onLake_18 : decode cX0_onLake 18 = .ok (.iaload, 1) := dk_46 (dk_at dksX0_onLake_0 18 rfl rfl)
theorem dX0_onLake_19 : decode cX0_onLake 19 = .ok (.ifCond .ne 9, 3) := dk_154 0 9 (dk_at dksX0_onLake_0 19 rfl rfl)
theorem dX0_onLake_22 : decode cX0_onLake 22 = .ok (.iconst 1, 1) := dk_4 (dk_at dksX0_onLake_0 22 rfl rfl)
theorem dX0_onLake_23 : decode cX0_onLake 23 = .ok (.iload_n 2, 1) := dk_28 (dk_at dksX0_onLake_0 23 rfl rfl)
theorem dX0_onLake_24 : decode cX0_onLake 24 = .ok (.ishl, 1) := dk_120 (dk_at dksX0_onLake_1 0 rfl rfl)
theorem dX0_onLake_25 : decode cX0_onLake 25 = .ok (.goto 4, 3) := dk_167 0 4 (dk_at dksX0_onLake_1 1 rfl rfl)
theorem dX0_onLake_28 : decode cX0_onLake 28 = .ok (.iconst 0, 1) := dk_3 (dk_at dksX0_onLake_1 4 rfl rfl)
theorem dX0_onLake_29 : decode cX0_onLake 29 = .ok (.ior, 1) := dk_128 (dk_at dksX0_onLake_1 5 rfl rfl)
theorem dX0_onLake_30 : decode cX0_onLake 30 = .ok (.istore_n 1, 1) := dk_60 (dk_at dksX0_onLake_1 6 rfl rfl)
theorem dX0_onLake_31 : decode cX0_onLake 31 = .ok (.iinc 2 1, 3) := dk_132 2 1 (dk_at dksX0_onLake_1 7 rfl rfl)
theorem dX0_onLake_34 : decode cX0_onLake 34 = .ok (.goto (-30), 3) := dk_167 255 226 (dk_at dksX0_onLake_1 10 rfl rfl)
theorem dX0_onLake_37 : decode cX0_onLake 37 = .ok (.iload_n 1, 1) := dk_27 (dk_at dksX0_onLake_1 13 rfl rfl)
theorem dX0_onLake_38 : decode cX0_onLake 38 = .ok (.ireturn, 1) := dk_172 (dk_at dksX0_onLake_1 14 rfl rfl)
abbrev cX0_fetches : ByteArray := prog_1_method_55_code
def yX0_fetches : MethodName := ⟨RX0, "fetches", "(I)I"⟩
def dkwX0_fetches_0 : List UInt8 := [42, 27, 184, 1, 140, 181, 1, 122, 42, 2, 181, 1, 128, 42, 3, 27, 182, 1, 137, 42, 180, 1, 128, 172]
abbrev dktX0_fetches_0 : List UInt8 := dkwX0_fetches_0 ++ []
theorem dksX0_fetches_0 : cX0_fetches.data.toList.drop 0 = dktX0_fetches_0 := by decide +kernel
theorem dX0_fetches_0 : decode cX0_fetches 0 = .ok (.aload_n 0, 1) := dk_42 (dk_at dksX0_fetches_0 0 rfl rfl)
theorem dX0_fetches_1 : decode cX0_fetches 1 = .ok (.iload_n 1, 1) := dk_27 (dk_at dksX0_fetches_0 1 rfl rfl)
theorem dX0_fetches_2 : decode cX0_fetches 2 = .ok (.invokestatic 396, 3) := dk_184 1 140 (dk_at dksX0_fetches_0 2 rfl rfl)
theorem dX0_fetches_5 : decode cX0_fetches 5 = .ok (.putfield 378, 3) := dk_181 1 122 (dk_at dksX0_fetches_0 5 rfl rfl)
theorem dX0_fetches_8 : decode cX0_fetches 8 = .ok (.aload_n 0, 1) := dk_42 (dk_at dksX0_fetches_0 8 rfl rfl)
theorem dX0_fetches_9 : decode cX0_fetches 9 = .ok (.iconst (-1), 1) := dk_2 (dk_at dksX0_fetches_0 9 rfl rfl)
theorem dX0_fetches_10 : decode cX0_fetches 10 = .ok (.putfield 384, 3) := dk_181 1 128 (dk_at dksX0_fetches_0 10 rfl rfl)
theorem dX0_fetches_13 : decode cX0_fetches 13 = .ok (.aload_n 0, 1) := dk_42 (dk_at dksX0_fetches_0 13 rfl rfl)
theorem dX0_fetches_14 : decode cX0_fetches 14 = .ok (.iconst 0, 1) := dk_3 (dk_at dksX0_fetches_0 14 rfl rfl)
theorem dX0_fetches_15 : decode cX0_fetches 15 = .ok (.iload_n 1, 1) := dk_27 (dk_at dksX0_fetches_0 15 rfl rfl)
theorem dX0_fetches_16 : decode cX0_fetches 16 = .ok (.invokevirtual 393, 3) := dk_182 1 137 (dk_at dksX0_fetches_0 16 rfl rfl)
theorem dX0_fetches_19 : decode cX0_fetches 19 = .ok (.aload_n 0, 1) := dk_42 (dk_at dksX0_fetches_0 19 rfl rfl)
theorem dX0_fetches_20 : decode cX0_fetches 20 = .ok (.getfield 384, 3) := dk_180 1 128 (dk_at dksX0_fetches_0 20 rfl rfl)
theorem dX0_fetches_23 : decode cX0_fetches 23 = .ok (.ireturn, 1) := dk_172 (dk_at dksX0_fetches_0 23 rfl rfl)
abbrev cX0_orders : ByteArray := prog_1_method_54_code
def yX0_orders : MethodName := ⟨RX0, "orders", "(II)V"⟩
def dkwX0_orders_3 : List UInt8 := [29, 79, 42, 27, 4, 96, 28, 4, 29, 120, 2, 130, 126, 182, 1, 137, 132, 3, 1, 167, 255, 215, 177]
abbrev dktX0_orders_3 : List UInt8 := dkwX0_orders_3 ++ []
def dkwX0_orders_2 : List UInt8 := [3, 62, 29, 42, 180, 0, 15, 162, 0, 39, 28, 29, 122, 4, 126, 4, 160, 0, 24, 42, 180, 1, 41, 27]
abbrev dktX0_orders_2 : List UInt8 := dkwX0_orders_2 ++ dktX0_orders_3
def dkwX0_orders_1 : List UInt8 := [162, 0, 23, 42, 29, 181, 1, 128, 42, 180, 1, 41, 3, 42, 180, 1, 44, 3, 16, 7, 184, 1, 131, 177]
abbrev dktX0_orders_1 : List UInt8 := dkwX0_orders_1 ++ dktX0_orders_2
def dkwX0_orders_0 : List UInt8 := [28, 154, 0, 45, 42, 182, 1, 125, 62, 42, 180, 1, 128, 2, 159, 0, 11, 29, 42, 180, 1, 128]
abbrev dktX0_orders_0 : List UInt8 := dkwX0_orders_0 ++ dktX0_orders_1
theorem dksX0_orders_0 : cX0_orders.data.toList.drop 0 = dktX0_orders_0 := by decide +kernel
theorem dksX0_orders_1 : cX0_orders.data.toList.drop 22 = dktX0_orders_1 := dk_seg dksX0_orders_0 22 rfl rfl
theorem dksX0_orders_2 : cX0_orders.data.toList.drop 46 = dktX0_orders_2 := dk_seg dksX0_orders_1 24 rfl rfl
theorem dksX0_orders_3 : cX0_orders.data.toList.drop 70 = dktX0_orders_3 := dk_seg dksX0_orders_2 24 rfl rfl
theorem dX0_orders_0 : decode cX0_orders 0 = .ok (.iload_n 2, 1) := dk_28 (dk_at dksX0_orders_0 0 rfl rfl)
theorem dX0_orders_1 : decode cX0_orders 1 = .ok (.ifCond .ne 45, 3) := dk_154 0 45 (dk_at dksX0_orders_0 1 rfl rfl)
theorem dX0_orders_4 : decode cX0_orders 4 = .ok (.aload_n 0, 1) := dk_42 (dk_at dksX0_orders_0 4 rfl rfl)
theorem dX0_orders_5 : decode cX0_orders 5 = .ok (.invokevirtual 381, 3) := dk_182 1 125 (dk_at dksX0_orders_0 5 rfl rfl)
theorem dX0_orders_8 : decode cX0_orders 8 = .ok (.istore_n 3, 1) := dk_62 (dk_at dksX0_orders_0 8 rfl rfl)
theorem dX0_orders_9 : decode cX0_orders 9 = .ok (.aload_n 0, 1) := dk_42 (dk_at dksX0_orders_0 9 rfl rfl)
theorem dX0_orders_10 : decode cX0_orders 10 = .ok (.getfield 384, 3) := dk_180 1 128 (dk_at dksX0_orders_0 10 rfl rfl)
theorem dX0_orders_13 : decode cX0_orders 13 = .ok (.iconst (-1), 1) := dk_2 (dk_at dksX0_orders_0 13 rfl rfl)
theorem dX0_orders_14 : decode cX0_orders 14 = .ok (.if_icmp .eq 11, 3) := dk_159 0 11 (dk_at dksX0_orders_0 14 rfl rfl)
theorem dX0_orders_17 : decode cX0_orders 17 = .ok (.iload_n 3, 1) := dk_29 (dk_at dksX0_orders_0 17 rfl rfl)
theorem dX0_orders_18 : decode cX0_orders 18 = .ok (.aload_n 0, 1) := dk_42 (dk_at dksX0_orders_0 18 rfl rfl)
theorem dX0_orders_19 : decode cX0_orders 19 = .ok (.getfield 384, 3) := dk_180 1 128 (dk_at dksX0_orders_0 19 rfl rfl)
theorem dX0_orders_22 : decode cX0_orders 22 = .ok (.if_icmp .ge 23, 3) := dk_162 0 23 (dk_at dksX0_orders_1 0 rfl rfl)
theorem dX0_orders_25 : decode cX0_orders 25 = .ok (.aload_n 0, 1) := dk_42 (dk_at dksX0_orders_1 3 rfl rfl)
theorem dX0_orders_26 : decode cX0_orders 26 = .ok (.iload_n 3, 1) := dk_29 (dk_at dksX0_orders_1 4 rfl rfl)
theorem dX0_orders_27 : decode cX0_orders 27 = .ok (.putfield 384, 3) := dk_181 1 128 (dk_at dksX0_orders_1 5 rfl rfl)
theorem dX0_orders_30 : decode cX0_orders 30 = .ok (.aload_n 0, 1) := dk_42 (dk_at dksX0_orders_1 8 rfl rfl)
theorem dX0_orders_31 : decode cX0_orders 31 = .ok (.getfield 297, 3) := dk_180 1 41 (dk_at dksX0_orders_1 9 rfl rfl)
theorem dX0_orders_34 : decode cX0_orders 34 = .ok (.iconst 0, 1) := dk_3 (dk_at dksX0_orders_1 12 rfl rfl)
theorem dX0_orders_35 : decode cX0_orders 35 = .ok (.aload_n 0, 1) := dk_42 (dk_at dksX0_orders_1 13 rfl rfl)
theorem dX0_orders_36 : decode cX0_orders 36 = .ok (.getfield 300, 3) := dk_180 1 44 (dk_at dksX0_orders_1 14 rfl rfl)
theorem dX0_orders_39 : decode cX0_orders 39 = .ok (.iconst 0, 1) := dk_3 (dk_at dksX0_orders_1 17 rfl rfl)
theorem dX0_orders_40 : decode cX0_orders 40 = .ok (.bipush 7, 2) := dk_16 7 (dk_at dksX0_orders_1 18 rfl rfl)
theorem dX0_orders_42 : decode cX0_orders 42 = .ok (.invokestatic 387, 3) := dk_184 1 131 (dk_at dksX0_orders_1 20 rfl rfl)
theorem dX0_orders_45 : decode cX0_orders 45 = .ok (.return_, 1) := dk_177 (dk_at dksX0_orders_1 23 rfl rfl)
theorem dX0_orders_46 : decode cX0_orders 46 = .ok (.iconst 0, 1) := dk_3 (dk_at dksX0_orders_2 0 rfl rfl)
theorem dX0_orders_47 : decode cX0_orders 47 = .ok (.istore_n 3, 1) := dk_62 (dk_at dksX0_orders_2 1 rfl rfl)
theorem dX0_orders_48 : decode cX0_orders 48 = .ok (.iload_n 3, 1) := dk_29 (dk_at dksX0_orders_2 2 rfl rfl)
theorem dX0_orders_49 : decode cX0_orders 49 = .ok (.aload_n 0, 1) := dk_42 (dk_at dksX0_orders_2 3 rfl rfl)
theorem dX0_orders_50 : decode cX0_orders 50 = .ok (.getfield 15, 3) := dk_180 0 15 (dk_at dksX0_orders_2 4 rfl rfl)
theorem dX0_orders_53 : decode cX0_orders 53 = .ok (.if_icmp .ge 39, 3) := dk_162 0 39 (dk_at dksX0_orders_2 7 rfl rfl)
theorem dX0_orders_56 : decode cX0_orders 56 = .ok (.iload_n 2, 1) := dk_28 (dk_at dksX0_orders_2 10 rfl rfl)
theorem dX0_orders_57 : decode cX0_orders 57 = .ok (.iload_n 3, 1) := dk_29 (dk_at dksX0_orders_2 11 rfl rfl)
theorem dX0_orders_58 : decode cX0_orders 58 = .ok (.ishr, 1) := dk_122 (dk_at dksX0_orders_2 12 rfl rfl)
theorem dX0_orders_59 : decode cX0_orders 59 = .ok (.iconst 1, 1) := dk_4 (dk_at dksX0_orders_2 13 rfl rfl)
theorem dX0_orders_60 : decode cX0_orders 60 = .ok (.iand, 1) := dk_126 (dk_at dksX0_orders_2 14 rfl rfl)
theorem dX0_orders_61 : decode cX0_orders 61 = .ok (.iconst 1, 1) := dk_4 (dk_at dksX0_orders_2 15 rfl rfl)
theorem dX0_orders_62 : decode cX0_orders 62 = .ok (.if_icmp .ne 24, 3) := dk_160 0 24 (dk_at dksX0_orders_2 16 rfl rfl)
theorem dX0_orders_65 : decode cX0_orders 65 = .ok (.aload_n 0, 1) := dk_42 (dk_at dksX0_orders_2 19 rfl rfl)
theorem dX0_orders_66 : decode cX0_orders 66 = .ok (.getfield 297, 3) := dk_180 1 41 (dk_at dksX0_orders_2 20 rfl rfl)
theorem dX0_orders_69 : decode cX0_orders 69 = .ok (.iload_n 1, 1) := dk_27 (dk_at dksX0_orders_2 23 rfl rfl)
theorem dX0_orders_70 : decode cX0_orders 70 = .ok (.iload_n 3, 1) := dk_29 (dk_at dksX0_orders_3 0 rfl rfl)
theorem dX0_orders_71 : decode cX0_orders 71 = .ok (.iastore, 1) := dk_79 (dk_at dksX0_orders_3 1 rfl rfl)
theorem dX0_orders_72 : decode cX0_orders 72 = .ok (.aload_n 0, 1) := dk_42 (dk_at dksX0_orders_3 2 rfl rfl)
theorem dX0_orders_73 : decode cX0_orders 73 = .ok (.iload_n 1, 1) := dk_27 (dk_at dksX0_orders_3 3 rfl rfl)
theorem dX0_orders_74 : decode cX0_orders 74 = .ok (.iconst 1, 1) := dk_4 (dk_at dksX0_orders_3 4 rfl rfl)
theorem dX0_orders_75 : decode cX0_orders 75 = .ok (.iadd, 1) := dk_96 (dk_at dksX0_orders_3 5 rfl rfl)
theorem dX0_orders_76 : decode cX0_orders 76 = .ok (.iload_n 2, 1) := dk_28 (dk_at dksX0_orders_3 6 rfl rfl)
theorem dX0_orders_77 : decode cX0_orders 77 = .ok (.iconst 1, 1) := dk_4 (dk_at dksX0_orders_3 7 rfl rfl)
theorem dX0_orders_78 : decode cX0_orders 78 = .ok (.iload_n 3, 1) := dk_29 (dk_at dksX0_orders_3 8 rfl rfl)
theorem dX0_orders_79 : decode cX0_orders 79 = .ok (.ishl, 1) := dk_120 (dk_at dksX0_orders_3 9 rfl rfl)
theorem dX0_orders_80 : decode cX0_orders 80 = .ok (.iconst (-1), 1) := dk_2 (dk_at dksX0_orders_3 10 rfl rfl)
theorem dX0_orders_81 : decode cX0_orders 81 = .ok (.ixor, 1) := dk_130 (dk_at dksX0_orders_3 11 rfl rfl)
theorem dX0_orders_82 : decode cX0_orders 82 = .ok (.iand, 1) := dk_126 (dk_at dksX0_orders_3 12 rfl rfl)
theorem dX0_orders_83 : decode cX0_orders 83 = .ok (.invokevirtual 393, 3) := dk_182 1 137 (dk_at dksX0_orders_3 13 rfl rfl)
theorem dX0_orders_86 : decode cX0_orders 86 = .ok (.iinc 3 1, 3) := dk_132 3 1 (dk_at dksX0_orders_3 16 rfl rfl)
theorem dX0_orders_89 : decode cX0_orders 89 = .ok (.goto (-41), 3) := dk_167 255 215 (dk_at dksX0_orders_3 19 rfl rfl)
theorem dX0_orders_92 : decode cX0_orders 92 = .ok (.return_, 1) := dk_177 (dk_at dksX0_orders_3 22 rfl rfl)
abbrev cX0_minutesOf : ByteArray := prog_1_method_53_code
def yX0_minutesOf : MethodName := ⟨RX0, "minutesOf", "()I"⟩
def dkwX0_minutesOf_4 : List UInt8 := [6, 46, 29, 96, 104, 96, 60, 3, 61, 3, 62, 132, 4, 1, 167, 255, 158, 27, 172]
abbrev dktX0_minutesOf_4 : List UInt8 := dkwX0_minutesOf_4 ++ []
def dkwX0_minutesOf_3 : List UInt8 := [159, 0, 14, 21, 4, 42, 180, 1, 122, 4, 100, 160, 0, 24, 27, 28, 3, 184, 1, 92, 42, 180, 0, 98]
abbrev dktX0_minutesOf_3 : List UInt8 := dkwX0_minutesOf_3 ++ dktX0_minutesOf_4
def dkwX0_minutesOf_2 : List UInt8 := [180, 0, 56, 42, 180, 1, 41, 21, 4, 46, 46, 61, 132, 3, 1, 29, 42, 180, 0, 98, 5, 46]
abbrev dktX0_minutesOf_2 : List UInt8 := dkwX0_minutesOf_2 ++ dktX0_minutesOf_3
def dkwX0_minutesOf_1 : List UInt8 := [42, 180, 1, 41, 21, 4, 46, 46, 184, 1, 92, 42, 180, 0, 98, 6, 46, 29, 96, 104, 96, 60, 42]
abbrev dktX0_minutesOf_1 : List UInt8 := dkwX0_minutesOf_1 ++ dktX0_minutesOf_2
def dkwX0_minutesOf_0 : List UInt8 := [3, 60, 3, 61, 3, 62, 3, 54, 4, 21, 4, 42, 180, 1, 122, 162, 0, 95, 27, 28, 42, 180, 0, 56]
abbrev dktX0_minutesOf_0 : List UInt8 := dkwX0_minutesOf_0 ++ dktX0_minutesOf_1
theorem dksX0_minutesOf_0 : cX0_minutesOf.data.toList.drop 0 = dktX0_minutesOf_0 := by decide +kernel
theorem dksX0_minutesOf_1 : cX0_minutesOf.data.toList.drop 24 = dktX0_minutesOf_1 := dk_seg dksX0_minutesOf_0 24 rfl rfl
theorem dksX0_minutesOf_2 : cX0_minutesOf.data.toList.drop 47 = dktX0_minutesOf_2 := dk_seg dksX0_minutesOf_1 23 rfl rfl
theorem dksX0_minutesOf_3 : cX0_minutesOf.data.toList.drop 69 = dktX0_minutesOf_3 := dk_seg dksX0_minutesOf_2 22 rfl rfl
theorem dksX0_minutesOf_4 : cX0_minutesOf.data.toList.drop 93 = dktX0_minutesOf_4 := dk_seg dksX0_minutesOf_3 24 rfl rfl
theorem dX0_minutesOf_0 : decode cX0_minutesOf 0 = .ok (.iconst 0, 1) := dk_3 (dk_at dksX0_minutesOf_0 0 rfl rfl)
theorem dX0_minutesOf_1 : decode cX0_minutesOf 1 = .ok (.istore_n 1, 1) := dk_60 (dk_at dksX0_minutesOf_0 1 rfl rfl)
theorem dX0_minutesOf_2 : decode cX0_minutesOf 2 = .ok (.iconst 0, 1) := dk_3 (dk_at dksX0_minutesOf_0 2 rfl rfl)
theorem dX0_minutesOf_3 : decode cX0_minutesOf 3 = .ok (.istore_n 2, 1) := dk_61 (dk_at dksX0_minutesOf_0 3 rfl rfl)
theorem dX0_minutesOf_4 : decode cX0_minutesOf 4 = .ok (.iconst 0, 1) := dk_3 (dk_at dksX0_minutesOf_0 4 rfl rfl)
theorem dX0_minutesOf_5 : decode cX0_minutesOf 5 = .ok (.istore_n 3, 1) := dk_62 (dk_at dksX0_minutesOf_0 5 rfl rfl)
theorem dX0_minutesOf_6 : decode cX0_minutesOf 6 = .ok (.iconst 0, 1) := dk_3 (dk_at dksX0_minutesOf_0 6 rfl rfl)
theorem dX0_minutesOf_7 : decode cX0_minutesOf 7 = .ok (.istore 4, 2) := dk_54 4 (dk_at dksX0_minutesOf_0 7 rfl rfl)
theorem dX0_minutesOf_9 : decode cX0_minutesOf 9 = .ok (.iload 4, 2) := dk_21 4 (dk_at dksX0_minutesOf_0 9 rfl rfl)
theorem dX0_minutesOf_11 : decode cX0_minutesOf 11 = .ok (.aload_n 0, 1) := dk_42 (dk_at dksX0_minutesOf_0 11 rfl rfl)
theorem dX0_minutesOf_12 : decode cX0_minutesOf 12 = .ok (.getfield 378, 3) := dk_180 1 122 (dk_at dksX0_minutesOf_0 12 rfl rfl)
theorem dX0_minutesOf_15 : decode cX0_minutesOf 15 = .ok (.if_icmp .ge 95, 3) := dk_162 0 95 (dk_at dksX0_minutesOf_0 15 rfl rfl)
theorem dX0_minutesOf_18 : decode cX0_minutesOf 18 = .ok (.iload_n 1, 1) := dk_27 (dk_at dksX0_minutesOf_0 18 rfl rfl)
theorem dX0_minutesOf_19 : decode cX0_minutesOf 19 = .ok (.iload_n 2, 1) := dk_28 (dk_at dksX0_minutesOf_0 19 rfl rfl)
theorem dX0_minutesOf_20 : decode cX0_minutesOf 20 = .ok (.aload_n 0, 1) := dk_42 (dk_at dksX0_minutesOf_0 20 rfl rfl)
theorem dX0_minutesOf_21 : decode cX0_minutesOf 21 = .ok (.getfield 56, 3) := dk_180 0 56 (dk_at dksX0_minutesOf_0 21 rfl rfl)
theorem dX0_minutesOf_24 : decode cX0_minutesOf 24 = .ok (.aload_n 0, 1) := dk_42 (dk_at dksX0_minutesOf_1 0 rfl rfl)
theorem dX0_minutesOf_25 : decode cX0_minutesOf 25 = .ok (.getfield 297, 3) := dk_180 1 41 (dk_at dksX0_minutesOf_1 1 rfl rfl)
theorem dX0_minutesOf_28 : decode cX0_minutesOf 28 = .ok (.iload 4, 2) := dk_21 4 (dk_at dksX0_minutesOf_1 4 rfl rfl)
theorem dX0_minutesOf_30 : decode cX0_minutesOf 30 = .ok (.iaload, 1) := dk_46 (dk_at dksX0_minutesOf_1 6 rfl rfl)
theorem dX0_minutesOf_31 : decode cX0_minutesOf 31 = .ok (.iaload, 1) := dk_46 (dk_at dksX0_minutesOf_1 7 rfl rfl)
theorem dX0_minutesOf_32 : decode cX0_minutesOf 32 = .ok (.invokestatic 348, 3) := dk_184 1 92 (dk_at dksX0_minutesOf_1 8 rfl rfl)
theorem dX0_minutesOf_35 : decode cX0_minutesOf 35 = .ok (.aload_n 0, 1) := dk_42 (dk_at dksX0_minutesOf_1 11 rfl rfl)
theorem dX0_minutesOf_36 : decode cX0_minutesOf 36 = .ok (.getfield 98, 3) := dk_180 0 98 (dk_at dksX0_minutesOf_1 12 rfl rfl)
theorem dX0_minutesOf_39 : decode cX0_minutesOf 39 = .ok (.iconst 3, 1) := dk_6 (dk_at dksX0_minutesOf_1 15 rfl rfl)
theorem dX0_minutesOf_40 : decode cX0_minutesOf 40 = .ok (.iaload, 1) := dk_46 (dk_at dksX0_minutesOf_1 16 rfl rfl)
theorem dX0_minutesOf_41 : decode cX0_minutesOf 41 = .ok (.iload_n 3, 1) := dk_29 (dk_at dksX0_minutesOf_1 17 rfl rfl)
theorem dX0_minutesOf_42 : decode cX0_minutesOf 42 = .ok (.iadd, 1) := dk_96 (dk_at dksX0_minutesOf_1 18 rfl rfl)
theorem dX0_minutesOf_43 : decode cX0_minutesOf 43 = .ok (.imul, 1) := dk_104 (dk_at dksX0_minutesOf_1 19 rfl rfl)
theorem dX0_minutesOf_44 : decode cX0_minutesOf 44 = .ok (.iadd, 1) := dk_96 (dk_at dksX0_minutesOf_1 20 rfl rfl)
theorem dX0_minutesOf_45 : decode cX0_minutesOf 45 = .ok (.istore_n 1, 1) := dk_60 (dk_at dksX0_minutesOf_1 21 rfl rfl)
theorem dX0_minutesOf_46 : decode cX0_minutesOf 46 = .ok (.aload_n 0, 1) := dk_42 (dk_at dksX0_minutesOf_1 22 rfl rfl)
theorem dX0_minutesOf_47 : decode cX0_minutesOf 47 = .ok (.getfield 56, 3) := dk_180 0 56 (dk_at dksX0_minutesOf_2 0 rfl rfl)
theorem dX0_minutesOf_50 : decode cX0_minutesOf 50 = .ok (.aload_n 0, 1) := dk_42 (dk_at dksX0_minutesOf_2 3 rfl rfl)
theorem dX0_minutesOf_51 : decode cX0_minutesOf 51 = .ok (.getfield 297, 3) := dk_180 1 41 (dk_at dksX0_minutesOf_2 4 rfl rfl)
theorem dX0_minutesOf_54 : decode cX0_minutesOf 54 = .ok (.iload 4, 2) := dk_21 4 (dk_at dksX0_minutesOf_2 7 rfl rfl)
theorem dX0_minutesOf_56 : decode cX0_minutesOf 56 = .ok (.iaload, 1) := dk_46 (dk_at dksX0_minutesOf_2 9 rfl rfl)
theorem dX0_minutesOf_57 : decode cX0_minutesOf 57 = .ok (.iaload, 1) := dk_46 (dk_at dksX0_minutesOf_2 10 rfl rfl)
theorem dX0_minutesOf_58 : decode cX0_minutesOf 58 = .ok (.istore_n 2, 1) := dk_61 (dk_at dksX0_minutesOf_2 11 rfl rfl)
theorem dX0_minutesOf_59 : decode cX0_minutesOf 59 = .ok (.iinc 3 1, 3) := dk_132 3 1 (dk_at dksX0_minutesOf_2 12 rfl rfl)
theorem dX0_minutesOf_62 : decode cX0_minutesOf 62 = .ok (.iload_n 3, 1) := dk_29 (dk_at dksX0_minutesOf_2 15 rfl rfl)
theorem dX0_minutesOf_63 : decode cX0_minutesOf 63 = .ok (.aload_n 0, 1) := dk_42 (dk_at dksX0_minutesOf_2 16 rfl rfl)
theorem dX0_minutesOf_64 : decode cX0_minutesOf 64 = .ok (.getfield 98, 3) := dk_180 0 98 (dk_at dksX0_minutesOf_2 17 rfl rfl)
theorem dX0_minutesOf_67 : decode cX0_minutesOf 67 = .ok (.iconst 2, 1) := dk_5 (dk_at dksX0_minutesOf_2 20 rfl rfl)
theorem dX0_minutesOf_68 : decode cX0_minutesOf 68 = .ok (.iaload, 1) := dk_46 (dk_at dksX0_minutesOf_2 21 rfl rfl)
theorem dX0_minutesOf_69 : decode cX0_minutesOf 69 = .ok (.if_icmp .eq 14, 3) := dk_159 0 14 (dk_at dksX0_minutesOf_3 0 rfl rfl)
theorem dX0_minutesOf_72 : decode cX0_minutesOf 72 = .ok (.iload 4, 2) := dk_21 4 (dk_at dksX0_minutesOf_3 3 rfl rfl)
theorem dX0_minutesOf_74 : decode cX0_minutesOf 74 = .ok (.aload_n 0, 1) := dk_42 (dk_at dksX0_minutesOf_3 5 rfl rfl)
theorem dX0_minutesOf_75 : decode cX0_minutesOf 75 = .ok (.getfield 378, 3) := dk_180 1 122 (dk_at dksX0_minutesOf_3 6 rfl rfl)
theorem dX0_minutesOf_78 : decode cX0_minutesOf 78 = .ok (.iconst 1, 1) := dk_4 (dk_at dksX0_minutesOf_3 9 rfl rfl)
theorem dX0_minutesOf_79 : decode cX0_minutesOf 79 = .ok (.isub, 1) := dk_100 (dk_at dksX0_minutesOf_3 10 rfl rfl)
theorem dX0_minutesOf_80 : decode cX0_minutesOf 80 = .ok (.if_icmp .ne 24, 3) := dk_160 0 24 (dk_at dksX0_minutesOf_3 11 rfl rfl)
theorem dX0_minutesOf_83 : decode cX0_minutesOf 83 = .ok (.iload_n 1, 1) := dk_27 (dk_at dksX0_minutesOf_3 14 rfl rfl)
theorem dX0_minutesOf_84 : decode cX0_minutesOf 84 = .ok (.iload_n 2, 1) := dk_28 (dk_at dksX0_minutesOf_3 15 rfl rfl)
theorem dX0_minutesOf_85 : decode cX0_minutesOf 85 = .ok (.iconst 0, 1) := dk_3 (dk_at dksX0_minutesOf_3 16 rfl rfl)
theorem dX0_minutesOf_86 : decode cX0_minutesOf 86 = .ok (.invokestatic 348, 3) := dk_184 1 92 (dk_at dksX0_minutesOf_3 17 rfl rfl)
theorem dX0_minutesOf_89 : decode cX0_minutesOf 89 = .ok (.aload_n 0, 1) := dk_42 (dk_at dksX0_minutesOf_3 20 rfl rfl)
theorem dX0_minutesOf_90 : decode cX0_minutesOf 90 = .ok (.getfield 98, 3) := dk_180 0 98 (dk_at dksX0_minutesOf_3 21 rfl rfl)
theorem dX0_minutesOf_93 : decode cX0_minutesOf 93 = .ok (.iconst 3, 1) := dk_6 (dk_at dksX0_minutesOf_4 0 rfl rfl)
theorem dX0_minutesOf_94 : decode cX0_minutesOf 94 = .ok (.iaload, 1) := dk_46 (dk_at dksX0_minutesOf_4 1 rfl rfl)
theorem dX0_minutesOf_95 : decode cX0_minutesOf 95 = .ok (.iload_n 3, 1) := dk_29 (dk_at dksX0_minutesOf_4 2 rfl rfl)
theorem dX0_minutesOf_96 : decode cX0_minutesOf 96 = .ok (.iadd, 1) := dk_96 (dk_at dksX0_minutesOf_4 3 rfl rfl)
theorem dX0_minutesOf_97 : decode cX0_minutesOf 97 = .ok (.imul, 1) := dk_104 (dk_at dksX0_minutesOf_4 4 rfl rfl)
theorem dX0_minutesOf_98 : decode cX0_minutesOf 98 = .ok (.iadd, 1) := dk_96 (dk_at dksX0_minutesOf_4 5 rfl rfl)
theorem dX0_minutesOf_99 : decode cX0_minutesOf 99 = .ok (.istore_n 1, 1) := dk_60 (dk_at dksX0_minutesOf_4 6 rfl rfl)
theorem dX0_minutesOf_100 : decode cX0_minutesOf 100 = .ok (.iconst 0, 1) := dk_3 (dk_at dksX0_minutesOf_4 7 rfl rfl)
theorem dX0_minutesOf_101 : decode cX0_minutesOf 101 = .ok (.istore_n 2, 1) := dk_61 (dk_at dksX0_minutesOf_4 8 rfl rfl)
theorem dX0_minutesOf_102 : decode cX0_minutesOf 102 = .ok (.iconst 0, 1) := dk_3 (dk_at dksX0_minutesOf_4 9 rfl rfl)
theorem dX0_minutesOf_103 : decode cX0_minutesOf 103 = .ok (.istore_n 3, 1) := dk_62 (dk_at dksX0_minutesOf_4 10 rfl rfl)
theorem dX0_minutesOf_104 : decode cX0_minutesOf 104 = .ok (.iinc 4 1, 3) := dk_132 4 1 (dk_at dksX0_minutesOf_4 11 rfl rfl)
theorem dX0_minutesOf_107 : decode cX0_minutesOf 107 = .ok (.goto (-98), 3) := dk_167 255 158 (dk_at dksX0_minutesOf_4 14 rfl rfl)
theorem dX0_minutesOf_110 : decode cX0_minutesOf 110 = .ok (.iload_n 1, 1) := dk_27 (dk_at dksX0_minutesOf_4 17 rfl rfl)
theorem dX0_minutesOf_111 : decode cX0_minutesOf 111 = .ok (.ireturn, 1) := dk_172 (dk_at dksX0_minutesOf_4 18 rfl rfl)
abbrev cX0_launch : ByteArray := prog_1_method_58_code
def yX0_launch : MethodName := ⟨RX0, "launch", "(I)I"⟩
def dkwX0_launch_2 : List UInt8 := [182, 1, 112, 132, 3, 1, 167, 255, 227, 28, 172]
abbrev dktX0_launch_2 : List UInt8 := dkwX0_launch_2 ++ []
def dkwX0_launch_1 : List UInt8 := [62, 29, 42, 180, 0, 15, 162, 0, 27, 27, 29, 122, 4, 126, 4, 160, 0, 12, 42, 29, 42, 180, 0, 116]
abbrev dktX0_launch_1 : List UInt8 := dkwX0_launch_1 ++ dktX0_launch_2
def dkwX0_launch_0 : List UInt8 := [42, 27, 182, 1, 148, 154, 0, 6, 16, 254, 172, 42, 27, 182, 1, 153, 61, 42, 28, 182, 1, 116, 87, 3]
abbrev dktX0_launch_0 : List UInt8 := dkwX0_launch_0 ++ dktX0_launch_1
theorem dksX0_launch_0 : cX0_launch.data.toList.drop 0 = dktX0_launch_0 := by decide +kernel
theorem dksX0_launch_1 : cX0_launch.data.toList.drop 24 = dktX0_launch_1 := dk_seg dksX0_launch_0 24 rfl rfl
theorem dksX0_launch_2 : cX0_launch.data.toList.drop 48 = dktX0_launch_2 := dk_seg dksX0_launch_1 24 rfl rfl
theorem dX0_launch_0 : decode cX0_launch 0 = .ok (.aload_n 0, 1) := dk_42 (dk_at dksX0_launch_0 0 rfl rfl)
theorem dX0_launch_1 : decode cX0_launch 1 = .ok (.iload_n 1, 1) := dk_27 (dk_at dksX0_launch_0 1 rfl rfl)
theorem dX0_launch_2 : decode cX0_launch 2 = .ok (.invokevirtual 404, 3) := dk_182 1 148 (dk_at dksX0_launch_0 2 rfl rfl)
theorem dX0_launch_5 : decode cX0_launch 5 = .ok (.ifCond .ne 6, 3) := dk_154 0 6 (dk_at dksX0_launch_0 5 rfl rfl)
theorem dX0_launch_8 : decode cX0_launch 8 = .ok (.bipush (-2), 2) := dk_16 254 (dk_at dksX0_launch_0 8 rfl rfl)
theorem dX0_launch_10 : decode cX0_launch 10 = .ok (.ireturn, 1) := dk_172 (dk_at dksX0_launch_0 10 rfl rfl)
theorem dX0_launch_11 : decode cX0_launch 11 = .ok (.aload_n 0, 1) := dk_42 (dk_at dksX0_launch_0 11 rfl rfl)
theorem dX0_launch_12 : decode cX0_launch 12 = .ok (.iload_n 1, 1) := dk_27 (dk_at dksX0_launch_0 12 rfl rfl)
theorem dX0_launch_13 : decode cX0_launch 13 = .ok (.invokevirtual 409, 3) := dk_182 1 153 (dk_at dksX0_launch_0 13 rfl rfl)
theorem dX0_launch_16 : decode cX0_launch 16 = .ok (.istore_n 2, 1) := dk_61 (dk_at dksX0_launch_0 16 rfl rfl)
theorem dX0_launch_17 : decode cX0_launch 17 = .ok (.aload_n 0, 1) := dk_42 (dk_at dksX0_launch_0 17 rfl rfl)
theorem dX0_launch_18 : decode cX0_launch 18 = .ok (.iload_n 2, 1) := dk_28 (dk_at dksX0_launch_0 18 rfl rfl)
theorem dX0_launch_19 : decode cX0_launch 19 = .ok (.invokevirtual 372, 3) := dk_182 1 116 (dk_at dksX0_launch_0 19 rfl rfl)
theorem dX0_launch_22 : decode cX0_launch 22 = .ok (.pop, 1) := dk_87 (dk_at dksX0_launch_0 22 rfl rfl)
theorem dX0_launch_23 : decode cX0_launch 23 = .ok (.iconst 0, 1) := dk_3 (dk_at dksX0_launch_0 23 rfl rfl)
theorem dX0_launch_24 : decode cX0_launch 24 = .ok (.istore_n 3, 1) := dk_62 (dk_at dksX0_launch_1 0 rfl rfl)
theorem dX0_launch_25 : decode cX0_launch 25 = .ok (.iload_n 3, 1) := dk_29 (dk_at dksX0_launch_1 1 rfl rfl)
theorem dX0_launch_26 : decode cX0_launch 26 = .ok (.aload_n 0, 1) := dk_42 (dk_at dksX0_launch_1 2 rfl rfl)
theorem dX0_launch_27 : decode cX0_launch 27 = .ok (.getfield 15, 3) := dk_180 0 15 (dk_at dksX0_launch_1 3 rfl rfl)
theorem dX0_launch_30 : decode cX0_launch 30 = .ok (.if_icmp .ge 27, 3) := dk_162 0 27 (dk_at dksX0_launch_1 6 rfl rfl)
theorem dX0_launch_33 : decode cX0_launch 33 = .ok (.iload_n 1, 1) := dk_27 (dk_at dksX0_launch_1 9 rfl rfl)
theorem dX0_launch_34 : decode cX0_launch 34 = .ok (.iload_n 3, 1) := dk_29 (dk_at dksX0_launch_1 10 rfl rfl)
theorem dX0_launch_35 : decode cX0_launch 35 = .ok (.ishr, 1) := dk_122 (dk_at dksX0_launch_1 11 rfl rfl)
theorem dX0_launch_36 : decode cX0_launch 36 = .ok (.iconst 1, 1) := dk_4 (dk_at dksX0_launch_1 12 rfl rfl)
theorem dX0_launch_37 : decode cX0_launch 37 = .ok (.iand, 1) := dk_126 (dk_at dksX0_launch_1 13 rfl rfl)
theorem dX0_launch_38 : decode cX0_launch 38 = .ok (.iconst 1, 1) := dk_4 (dk_at dksX0_launch_1 14 rfl rfl)
theorem dX0_launch_39 : decode cX0_launch 39 = .ok (.if_icmp .ne 12, 3) := dk_160 0 12 (dk_at dksX0_launch_1 15 rfl rfl)
theorem dX0_launch_42 : decode cX0_launch 42 = .ok (.aload_n 0, 1) := dk_42 (dk_at dksX0_launch_1 18 rfl rfl)
theorem dX0_launch_43 : decode cX0_launch 43 = .ok (.iload_n 3, 1) := dk_29 (dk_at dksX0_launch_1 19 rfl rfl)
theorem dX0_launch_44 : decode cX0_launch 44 = .ok (.aload_n 0, 1) := dk_42 (dk_at dksX0_launch_1 20 rfl rfl)
theorem dX0_launch_45 : decode cX0_launch 45 = .ok (.getfield 116, 3) := dk_180 0 116 (dk_at dksX0_launch_1 21 rfl rfl)
theorem dX0_launch_48 : decode cX0_launch 48 = .ok (.invokevirtual 368, 3) := dk_182 1 112 (dk_at dksX0_launch_2 0 rfl rfl)
theorem dX0_launch_51 : decode cX0_launch 51 = .ok (.iinc 3 1, 3) := dk_132 3 1 (dk_at dksX0_launch_2 3 rfl rfl)
theorem dX0_launch_54 : decode cX0_launch 54 = .ok (.goto (-29), 3) := dk_167 255 227 (dk_at dksX0_launch_2 6 rfl rfl)
theorem dX0_launch_57 : decode cX0_launch 57 = .ok (.iload_n 2, 1) := dk_28 (dk_at dksX0_launch_2 9 rfl rfl)
theorem dX0_launch_58 : decode cX0_launch 58 = .ok (.ireturn, 1) := dk_172 (dk_at dksX0_launch_2 10 rfl rfl)
abbrev cX0_one_2 : ByteArray := prog_1_method_59_code
def yX0_one_2 : MethodName := ⟨RX0, "one", "(I)I"⟩
def dkwX0_one_2_3 : List UInt8 := [21, 4, 61, 21, 5, 62, 132, 4, 1, 167, 255, 197, 27, 154, 0, 7, 28, 167, 0, 4, 29, 172]
abbrev dktX0_one_2_3 : List UInt8 := dkwX0_one_2_3 ++ []
def dkwX0_one_2_2 : List UInt8 := [167, 0, 4, 2, 54, 5, 21, 5, 2, 159, 0, 20, 28, 2, 159, 0, 9, 21, 5, 29, 162, 0, 9]
abbrev dktX0_one_2_2 : List UInt8 := dkwX0_one_2_2 ++ dktX0_one_2_3
def dkwX0_one_2_1 : List UInt8 := [180, 0, 15, 162, 0, 56, 42, 180, 0, 66, 21, 4, 46, 154, 0, 14, 42, 4, 21, 4, 120, 182, 1, 153]
abbrev dktX0_one_2_1 : List UInt8 := dkwX0_one_2_1 ++ dktX0_one_2_2
def dkwX0_one_2_0 : List UInt8 := [27, 133, 9, 10, 184, 0, 5, 154, 0, 6, 16, 254, 172, 2, 61, 3, 62, 3, 54, 4, 21, 4, 42]
abbrev dktX0_one_2_0 : List UInt8 := dkwX0_one_2_0 ++ dktX0_one_2_1
theorem dksX0_one_2_0 : cX0_one_2.data.toList.drop 0 = dktX0_one_2_0 := by decide +kernel
theorem dksX0_one_2_1 : cX0_one_2.data.toList.drop 23 = dktX0_one_2_1 := dk_seg dksX0_one_2_0 23 rfl rfl
theorem dksX0_one_2_2 : cX0_one_2.data.toList.drop 47 = dktX0_one_2_2 := dk_seg dksX0_one_2_1 24 rfl rfl
theorem dksX0_one_2_3 : cX0_one_2.data.toList.drop 70 = dktX0_one_2_3 := dk_seg dksX0_one_2_2 23 rfl rfl
theorem dX0_one_2_0 : decode cX0_one_2 0 = .ok (.iload_n 1, 1) := dk_27 (dk_at dksX0_one_2_0 0 rfl rfl)
theorem dX0_one_2_1 : decode cX0_one_2 1 = .ok (.i2l, 1) := dk_133 (dk_at dksX0_one_2_0 1 rfl rfl)
theorem dX0_one_2_2 : decode cX0_one_2 2 = .ok (.lconst 0, 1) := dk_9 (dk_at dksX0_one_2_0 2 rfl rfl)
theorem dX0_one_2_3 : decode cX0_one_2 3 = .ok (.lconst 1, 1) := dk_10 (dk_at dksX0_one_2_0 3 rfl rfl)
theorem dX0_one_2_4 : decode cX0_one_2 4 = .ok (.invokestatic 5, 3) := dk_184 0 5 (dk_at dksX0_one_2_0 4 rfl rfl)
theorem dX0_one_2_7 : decode cX0_one_2 7 = .ok (.ifCond .ne 6, 3) := dk_154 0 6 (dk_at dksX0_one_2_0 7 rfl rfl)
theorem dX0_one_2_10 : decode cX0_one_2 10 = .ok (.bipush (-2), 2) := dk_16 254 (dk_at dksX0_one_2_0 10 rfl rfl)
theorem dX0_one_2_12 : decode cX0_one_2 12 = .ok (.ireturn, 1) := dk_172 (dk_at dksX0_one_2_0 12 rfl rfl)
theorem dX0_one_2_13 : decode cX0_one_2 13 = .ok (.iconst (-1), 1) := dk_2 (dk_at dksX0_one_2_0 13 rfl rfl)
theorem dX0_one_2_14 : decode cX0_one_2 14 = .ok (.istore_n 2, 1) := dk_61 (dk_at dksX0_one_2_0 14 rfl rfl)
theorem dX0_one_2_15 : decode cX0_one_2 15 = .ok (.iconst 0, 1) := dk_3 (dk_at dksX0_one_2_0 15 rfl rfl)
theorem dX0_one_2_16 : decode cX0_one_2 16 = .ok (.istore_n 3, 1) := dk_62 (dk_at dksX0_one_2_0 16 rfl rfl)
theorem dX0_one_2_17 : decode cX0_one_2 17 = .ok (.iconst 0, 1) := dk_3 (dk_at dksX0_one_2_0 17 rfl rfl)
theorem dX0_one_2_18 : decode cX0_one_2 18 = .ok (.istore 4, 2) := dk_54 4 (dk_at dksX0_one_2_0 18 rfl rfl)
theorem dX0_one_2_20 : decode cX0_one_2 20 = .ok (.iload 4, 2) := dk_21 4 (dk_at dksX0_one_2_0 20 rfl rfl)
theorem dX0_one_2_22 : decode cX0_one_2 22 = .ok (.aload_n 0, 1) := dk_42 (dk_at dksX0_one_2_0 22 rfl rfl)
theorem dX0_one_2_23 : decode cX0_one_2 23 = .ok (.getfield 15, 3) := dk_180 0 15 (dk_at dksX0_one_2_1 0 rfl rfl)
theorem dX0_one_2_26 : decode cX0_one_2 26 = .ok (.if_icmp .ge 56, 3) := dk_162 0 56 (dk_at dksX0_one_2_1 3 rfl rfl)
theorem dX0_one_2_29 : decode cX0_one_2 29 = .ok (.aload_n 0, 1) := dk_42 (dk_at dksX0_one_2_1 6 rfl rfl)
theorem dX0_one_2_30 : decode cX0_one_2 30 = .ok (.getfield 66, 3) := dk_180 0 66 (dk_at dksX0_one_2_1 7 rfl rfl)
theorem dX0_one_2_33 : decode cX0_one_2 33 = .ok (.iload 4, 2) := dk_21 4 (dk_at dksX0_one_2_1 10 rfl rfl)
theorem dX0_one_2_35 : decode cX0_one_2 35 = .ok (.iaload, 1) := dk_46 (dk_at dksX0_one_2_1 12 rfl rfl)
theorem dX0_one_2_36 : decode cX0_one_2 36 = .ok (.ifCond .ne 14, 3) := dk_154 0 14 (dk_at dksX0_one_2_1 13 rfl rfl)
theorem dX0_one_2_39 : decode cX0_one_2 39 = .ok (.aload_n 0, 1) := dk_42 (dk_at dksX0_one_2_1 16 rfl rfl)
theorem dX0_one_2_40 : decode cX0_one_2 40 = .ok (.iconst 1, 1) := dk_4 (dk_at dksX0_one_2_1 17 rfl rfl)
theorem dX0_one_2_41 : decode cX0_one_2 41 = .ok (.iload 4, 2) := dk_21 4 (dk_at dksX0_one_2_1 18 rfl rfl)
theorem dX0_one_2_43 : decode cX0_one_2 43 = .ok (.ishl, 1) := dk_120 (dk_at dksX0_one_2_1 20 rfl rfl)
theorem dX0_one_2_44 : decode cX0_one_2 44 = .ok (.invokevirtual 409, 3) := dk_182 1 153 (dk_at dksX0_one_2_1 21 rfl rfl)
theorem dX0_one_2_47 : decode cX0_one_2 47 = .ok (.goto 4, 3) := dk_167 0 4 (dk_at dksX0_one_2_2 0 rfl rfl)
theorem dX0_one_2_50 : decode cX0_one_2 50 = .ok (.iconst (-1), 1) := dk_2 (dk_at dksX0_one_2_2 3 rfl rfl)
theorem dX0_one_2_51 : decode cX0_one_2 51 = .ok (.istore 5, 2) := dk_54 5 (dk_at dksX0_one_2_2 4 rfl rfl)
theorem dX0_one_2_53 : decode cX0_one_2 53 = .ok (.iload 5, 2) := dk_21 5 (dk_at dksX0_one_2_2 6 rfl rfl)
theorem dX0_one_2_55 : decode cX0_one_2 55 = .ok (.iconst (-1), 1) := dk_2 (dk_at dksX0_one_2_2 8 rfl rfl)
theorem dX0_one_2_56 : decode cX0_one_2 56 = .ok (.if_icmp .eq 20, 3) := dk_159 0 20 (dk_at dksX0_one_2_2 9 rfl rfl)
theorem dX0_one_2_59 : decode cX0_one_2 59 = .ok (.iload_n 2, 1) := dk_28 (dk_at dksX0_one_2_2 12 rfl rfl)
theorem dX0_one_2_60 : decode cX0_one_2 60 = .ok (.iconst (-1), 1) := dk_2 (dk_at dksX0_one_2_2 13 rfl rfl)
theorem dX0_one_2_61 : decode cX0_one_2 61 = .ok (.if_icmp .eq 9, 3) := dk_159 0 9 (dk_at dksX0_one_2_2 14 rfl rfl)
theorem dX0_one_2_64 : decode cX0_one_2 64 = .ok (.iload 5, 2) := dk_21 5 (dk_at dksX0_one_2_2 17 rfl rfl)
theorem dX0_one_2_66 : decode cX0_one_2 66 = .ok (.iload_n 3, 1) := dk_29 (dk_at dksX0_one_2_2 19 rfl rfl)
theorem dX0_one_2_67 : decode cX0_one_2 67 = .ok (.if_icmp .ge 9, 3) := dk_162 0 9 (dk_at dksX0_one_2_2 20 rfl rfl)
theorem dX0_one_2_70 : decode cX0_one_2 70 = .ok (.iload 4, 2) := dk_21 4 (dk_at dksX0_one_2_3 0 rfl rfl)
theorem dX0_one_2_72 : decode cX0_one_2 72 = .ok (.istore_n 2, 1) := dk_61 (dk_at dksX0_one_2_3 2 rfl rfl)
theorem dX0_one_2_73 : decode cX0_one_2 73 = .ok (.iload 5, 2) := dk_21 5 (dk_at dksX0_one_2_3 3 rfl rfl)
theorem dX0_one_2_75 : decode cX0_one_2 75 = .ok (.istore_n 3, 1) := dk_62 (dk_at dksX0_one_2_3 5 rfl rfl)
theorem dX0_one_2_76 : decode cX0_one_2 76 = .ok (.iinc 4 1, 3) := dk_132 4 1 (dk_at dksX0_one_2_3 6 rfl rfl)
theorem dX0_one_2_79 : decode cX0_one_2 79 = .ok (.goto (-59), 3) := dk_167 255 197 (dk_at dksX0_one_2_3 9 rfl rfl)
theorem dX0_one_2_82 : decode cX0_one_2 82 = .ok (.iload_n 1, 1) := dk_27 (dk_at dksX0_one_2_3 12 rfl rfl)
theorem dX0_one_2_83 : decode cX0_one_2 83 = .ok (.ifCond .ne 7, 3) := dk_154 0 7 (dk_at dksX0_one_2_3 13 rfl rfl)
theorem dX0_one_2_86 : decode cX0_one_2 86 = .ok (.iload_n 2, 1) := dk_28 (dk_at dksX0_one_2_3 16 rfl rfl)
theorem dX0_one_2_87 : decode cX0_one_2 87 = .ok (.goto 4, 3) := dk_167 0 4 (dk_at dksX0_one_2_3 17 rfl rfl)
theorem dX0_one_2_90 : decode cX0_one_2 90 = .ok (.iload_n 3, 1) := dk_29 (dk_at dksX0_one_2_3 20 rfl rfl)
theorem dX0_one_2_91 : decode cX0_one_2 91 = .ok (.ireturn, 1) := dk_172 (dk_at dksX0_one_2_3 21 rfl rfl)
abbrev cX0_thunder : ByteArray := prog_1_method_61_code
def yX0_thunder : MethodName := ⟨RX0, "thunder", "(II)I"⟩
def dkwX0_thunder_4 : List UInt8 := [167, 0, 4, 3, 128, 62, 132, 4, 1, 167, 255, 197, 29, 172]
abbrev dktX0_thunder_4 : List UInt8 := dkwX0_thunder_4 ++ []
def dkwX0_thunder_3 : List UInt8 := [159, 0, 20, 21, 5, 2, 159, 0, 21, 21, 5, 42, 180, 0, 116, 27, 96, 163, 0, 10, 4, 21, 4, 120]
abbrev dktX0_thunder_3 : List UInt8 := dkwX0_thunder_3 ++ dktX0_thunder_4
def dkwX0_thunder_2 : List UInt8 := [180, 0, 15, 162, 0, 56, 42, 21, 4, 182, 1, 119, 54, 5, 29, 42, 180, 0, 66, 21, 4, 46, 5]
abbrev dktX0_thunder_2 : List UInt8 := dkwX0_thunder_2 ++ dktX0_thunder_3
def dkwX0_thunder_1 : List UInt8 := [172, 28, 4, 160, 0, 13, 42, 42, 182, 1, 156, 27, 182, 1, 159, 172, 3, 62, 3, 54, 4, 21, 4, 42]
abbrev dktX0_thunder_1 : List UInt8 := dkwX0_thunder_1 ++ dktX0_thunder_2
def dkwX0_thunder_0 : List UInt8 := [27, 133, 9, 20, 0, 46, 184, 0, 5, 153, 0, 13, 28, 133, 9, 10, 184, 0, 5, 154, 0, 6, 16, 254]
abbrev dktX0_thunder_0 : List UInt8 := dkwX0_thunder_0 ++ dktX0_thunder_1
theorem dksX0_thunder_0 : cX0_thunder.data.toList.drop 0 = dktX0_thunder_0 := by decide +kernel
theorem dksX0_thunder_1 : cX0_thunder.data.toList.drop 24 = dktX0_thunder_1 := dk_seg dksX0_thunder_0 24 rfl rfl
theorem dksX0_thunder_2 : cX0_thunder.data.toList.drop 48 = dktX0_thunder_2 := dk_seg dksX0_thunder_1 24 rfl rfl
theorem dksX0_thunder_3 : cX0_thunder.data.toList.drop 71 = dktX0_thunder_3 := dk_seg dksX0_thunder_2 23 rfl rfl
theorem dksX0_thunder_4 : cX0_thunder.data.toList.drop 95 = dktX0_thunder_4 := dk_seg dksX0_thunder_3 24 rfl rfl
theorem dX0_thunder_0 : decode cX0_thunder 0 = .ok (.iload_n 1, 1) := dk_27 (dk_at dksX0_thunder_0 0 rfl rfl)
theorem dX0_thunder_1 : decode cX0_thunder 1 = .ok (.i2l, 1) := dk_133 (dk_at dksX0_thunder_0 1 rfl rfl)
theorem dX0_thunder_2 : decode cX0_thunder 2 = .ok (.lconst 0, 1) := dk_9 (dk_at dksX0_thunder_0 2 rfl rfl)
theorem dX0_thunder_3 : decode cX0_thunder 3 = .ok (.ldc2_w 46, 3) := dk_20 0 46 (dk_at dksX0_thunder_0 3 rfl rfl)
theorem dX0_thunder_6 : decode cX0_thunder 6 = .ok (.invokestatic 5, 3) := dk_184 0 5 (dk_at dksX0_thunder_0 6 rfl rfl)
theorem dX0_thunder_9 : decode cX0_thunder 9 = .ok (.ifCond .eq 13, 3) := dk_153 0 13 (dk_at dksX0_thunder_0 9 rfl rfl)
theorem dX0_thunder_12 : decode cX0_thunder 12 = .ok (.iload_n 2, 1) := dk_28 (dk_at dksX0_thunder_0 12 rfl rfl)
theorem dX0_thunder_13 : decode cX0_thunder 13 = .ok (.i2l, 1) := dk_133 (dk_at dksX0_thunder_0 13 rfl rfl)
theorem dX0_thunder_14 : decode cX0_thunder 14 = .ok (.lconst 0, 1) := dk_9 (dk_at dksX0_thunder_0 14 rfl rfl)
theorem dX0_thunder_15 : decode cX0_thunder 15 = .ok (.lconst 1, 1) := dk_10 (dk_at dksX0_thunder_0 15 rfl rfl)
theorem dX0_thunder_16 : decode cX0_thunder 16 = .ok (.invokestatic 5, 3) := dk_184 0 5 (dk_at dksX0_thunder_0 16 rfl rfl)
theorem dX0_thunder_19 : decode cX0_thunder 19 = .ok (.ifCond .ne 6, 3) := dk_154 0 6 (dk_at dksX0_thunder_0 19 rfl rfl)
theorem dX0_thunder_22 : decode cX0_thunder 22 = .ok (.bipush (-2), 2) := dk_16 254 (dk_at dksX0_thunder_0 22 rfl rfl)
theorem dX0_thunder_24 : decode cX0_thunder 24 = .ok (.ireturn, 1) := dk_172 (dk_at dksX0_thunder_1 0 rfl rfl)
theorem dX0_thunder_25 : decode cX0_thunder 25 = .ok (.iload_n 2, 1) := dk_28 (dk_at dksX0_thunder_1 1 rfl rfl)
theorem dX0_thunder_26 : decode cX0_thunder 26 = .ok (.iconst 1, 1) := dk_4 (dk_at dksX0_thunder_1 2 rfl rfl)
theorem dX0_thunder_27 : decode cX0_thunder 27 = .ok (.if_icmp .ne 13, 3) := dk_160 0 13 (dk_at dksX0_thunder_1 3 rfl rfl)
theorem dX0_thunder_30 : decode cX0_thunder 30 = .ok (.aload_n 0, 1) := dk_42 (dk_at dksX0_thunder_1 6 rfl rfl)
theorem dX0_thunder_31 : decode cX0_thunder 31 = .ok (.aload_n 0, 1) := dk_42 (dk_at dksX0_thunder_1 7 rfl rfl)
theorem dX0_thunder_32 : decode cX0_thunder 32 = .ok (.invokevirtual 412, 3) := dk_182 1 156 (dk_at dksX0_thunder_1 8 rfl rfl)
theorem dX0_thunder_35 : decode cX0_thunder 35 = .ok (.iload_n 1, 1) := dk_27 (dk_at dksX0_thunder_1 11 rfl rfl)
theorem dX0_thunder_36 : decode cX0_thunder 36 = .ok (.invokevirtual 415, 3) := dk_182 1 159 (dk_at dksX0_thunder_1 12 rfl rfl)
theorem dX0_thunder_39 : decode cX0_thunder 39 = .ok (.ireturn, 1) := dk_172 (dk_at dksX0_thunder_1 15 rfl rfl)
theorem dX0_thunder_40 : decode cX0_thunder 40 = .ok (.iconst 0, 1) := dk_3 (dk_at dksX0_thunder_1 16 rfl rfl)
theorem dX0_thunder_41 : decode cX0_thunder 41 = .ok (.istore_n 3, 1) := dk_62 (dk_at dksX0_thunder_1 17 rfl rfl)
theorem dX0_thunder_42 : decode cX0_thunder 42 = .ok (.iconst 0, 1) := dk_3 (dk_at dksX0_thunder_1 18 rfl rfl)
theorem dX0_thunder_43 : decode cX0_thunder 43 = .ok (.istore 4, 2) := dk_54 4 (dk_at dksX0_thunder_1 19 rfl rfl)
theorem dX0_thunder_45 : decode cX0_thunder 45 = .ok (.iload 4, 2) := dk_21 4 (dk_at dksX0_thunder_1 21 rfl rfl)
theorem dX0_thunder_47 : decode cX0_thunder 47 = .ok (.aload_n 0, 1) := dk_42 (dk_at dksX0_thunder_1 23 rfl rfl)
theorem dX0_thunder_48 : decode cX0_thunder 48 = .ok (.getfield 15, 3) := dk_180 0 15 (dk_at dksX0_thunder_2 0 rfl rfl)
theorem dX0_thunder_51 : decode cX0_thunder 51 = .ok (.if_icmp .ge 56, 3) := dk_162 0 56 (dk_at dksX0_thunder_2 3 rfl rfl)
theorem dX0_thunder_54 : decode cX0_thunder 54 = .ok (.aload_n 0, 1) := dk_42 (dk_at dksX0_thunder_2 6 rfl rfl)
theorem dX0_thunder_55 : decode cX0_thunder 55 = .ok (.iload 4, 2) := dk_21 4 (dk_at dksX0_thunder_2 7 rfl rfl)
theorem dX0_thunder_57 : decode cX0_thunder 57 = .ok (.invokevirtual 375, 3) := dk_182 1 119 (dk_at dksX0_thunder_2 9 rfl rfl)
theorem dX0_thunder_60 : decode cX0_thunder 60 = .ok (.istore 5, 2) := dk_54 5 (dk_at dksX0_thunder_2 12 rfl rfl)
theorem dX0_thunder_62 : decode cX0_thunder 62 = .ok (.iload_n 3, 1) := dk_29 (dk_at dksX0_thunder_2 14 rfl rfl)
theorem dX0_thunder_63 : decode cX0_thunder 63 = .ok (.aload_n 0, 1) := dk_42 (dk_at dksX0_thunder_2 15 rfl rfl)
theorem dX0_thunder_64 : decode cX0_thunder 64 = .ok (.getfield 66, 3) := dk_180 0 66 (dk_at dksX0_thunder_2 16 rfl rfl)
theorem dX0_thunder_67 : decode cX0_thunder 67 = .ok (.iload 4, 2) := dk_21 4 (dk_at dksX0_thunder_2 19 rfl rfl)
theorem dX0_thunder_69 : decode cX0_thunder 69 = .ok (.iaload, 1) := dk_46 (dk_at dksX0_thunder_2 21 rfl rfl)
theorem dX0_thunder_70 : decode cX0_thunder 70 = .ok (.iconst 2, 1) := dk_5 (dk_at dksX0_thunder_2 22 rfl rfl)
theorem dX0_thunder_71 : decode cX0_thunder 71 = .ok (.if_icmp .eq 20, 3) := dk_159 0 20 (dk_at dksX0_thunder_3 0 rfl rfl)
theorem dX0_thunder_74 : decode cX0_thunder 74 = .ok (.iload 5, 2) := dk_21 5 (dk_at dksX0_thunder_3 3 rfl rfl)
theorem dX0_thunder_76 : decode cX0_thunder 76 = .ok (.iconst (-1), 1) := dk_2 (dk_at dksX0_thunder_3 5 rfl rfl)
theorem dX0_thunder_77 : decode cX0_thunder 77 = .ok (.if_icmp .eq 21, 3) := dk_159 0 21 (dk_at dksX0_thunder_3 6 rfl rfl)
theorem dX0_thunder_80 : decode cX0_thunder 80 = .ok (.iload 5, 2) := dk_21 5 (dk_at dksX0_thunder_3 9 rfl rfl)
theorem dX0_thunder_82 : decode cX0_thunder 82 = .ok (.aload_n 0, 1) := dk_42 (dk_at dksX0_thunder_3 11 rfl rfl)
theorem dX0_thunder_83 : decode cX0_thunder 83 = .ok (.getfield 116, 3) := dk_180 0 116 (dk_at dksX0_thunder_3 12 rfl rfl)
theorem dX0_thunder_86 : decode cX0_thunder 86 = .ok (.iload_n 1, 1) := dk_27 (dk_at dksX0_thunder_3 15 rfl rfl)
theorem dX0_thunder_87 : decode cX0_thunder 87 = .ok (.iadd, 1) := dk_96 (dk_at dksX0_thunder_3 16 rfl rfl)
theorem dX0_thunder_88 : decode cX0_thunder 88 = .ok (.if_icmp .gt 10, 3) := dk_163 0 10 (dk_at dksX0_thunder_3 17 rfl rfl)
theorem dX0_thunder_91 : decode cX0_thunder 91 = .ok (.iconst 1, 1) := dk_4 (dk_at dksX0_thunder_3 20 rfl rfl)
theorem dX0_thunder_92 : decode cX0_thunder 92 = .ok (.iload 4, 2) := dk_21 4 (dk_at dksX0_thunder_3 21 rfl rfl)
theorem dX0_thunder_94 : decode cX0_thunder 94 = .ok (.ishl, 1) := dk_120 (dk_at dksX0_thunder_3 23 rfl rfl)
theorem dX0_thunder_95 : decode cX0_thunder 95 = .ok (.goto 4, 3) := dk_167 0 4 (dk_at dksX0_thunder_4 0 rfl rfl)
theorem dX0_thunder_98 : decode cX0_thunder 98 = .ok (.iconst 0, 1) := dk_3 (dk_at dksX0_thunder_4 3 rfl rfl)
theorem dX0_thunder_99 : decode cX0_thunder 99 = .ok (.ior, 1) := dk_128 (dk_at dksX0_thunder_4 4 rfl rfl)
theorem dX0_thunder_100 : decode cX0_thunder 100 = .ok (.istore_n 3, 1) := dk_62 (dk_at dksX0_thunder_4 5 rfl rfl)
theorem dX0_thunder_101 : decode cX0_thunder 101 = .ok (.iinc 4 1, 3) := dk_132 4 1 (dk_at dksX0_thunder_4 6 rfl rfl)
theorem dX0_thunder_104 : decode cX0_thunder 104 = .ok (.goto (-59), 3) := dk_167 255 197 (dk_at dksX0_thunder_4 9 rfl rfl)
theorem dX0_thunder_107 : decode cX0_thunder 107 = .ok (.iload_n 3, 1) := dk_29 (dk_at dksX0_thunder_4 12 rfl rfl)
theorem dX0_thunder_108 : decode cX0_thunder 108 = .ok (.ireturn, 1) := dk_172 (dk_at dksX0_thunder_4 13 rfl rfl)
abbrev cX0_mostFetched : ByteArray := prog_1_method_60_code
def yX0_mostFetched : MethodName := ⟨RX0, "mostFetched", "(II)I"⟩
def dkwX0_mostFetched_2 : List UInt8 := [167, 255, 213, 29, 172]
abbrev dktX0_mostFetched_2 : List UInt8 := dkwX0_mostFetched_2 ++ []
def dkwX0_mostFetched_1 : List UInt8 := [21, 4, 182, 1, 153, 28, 163, 0, 8, 21, 5, 167, 0, 4, 29, 62, 21, 4, 4, 100, 27, 126, 54, 4]
abbrev dktX0_mostFetched_1 : List UInt8 := dkwX0_mostFetched_1 ++ dktX0_mostFetched_2
def dkwX0_mostFetched_0 : List UInt8 := [3, 62, 27, 54, 4, 21, 4, 158, 0, 44, 21, 4, 184, 1, 140, 54, 5, 21, 5, 29, 164, 0, 18, 42]
abbrev dktX0_mostFetched_0 : List UInt8 := dkwX0_mostFetched_0 ++ dktX0_mostFetched_1
theorem dksX0_mostFetched_0 : cX0_mostFetched.data.toList.drop 0 = dktX0_mostFetched_0 := by decide +kernel
theorem dksX0_mostFetched_1 : cX0_mostFetched.data.toList.drop 24 = dktX0_mostFetched_1 := dk_seg dksX0_mostFetched_0 24 rfl rfl
theorem dksX0_mostFetched_2 : cX0_mostFetched.data.toList.drop 48 = dktX0_mostFetched_2 := dk_seg dksX0_mostFetched_1 24 rfl rfl
theorem dX0_mostFetched_0 : decode cX0_mostFetched 0 = .ok (.iconst 0, 1) := dk_3 (dk_at dksX0_mostFetched_0 0 rfl rfl)
theorem dX0_mostFetched_1 : decode cX0_mostFetched 1 = .ok (.istore_n 3, 1) := dk_62 (dk_at dksX0_mostFetched_0 1 rfl rfl)
theorem dX0_mostFetched_2 : decode cX0_mostFetched 2 = .ok (.iload_n 1, 1) := dk_27 (dk_at dksX0_mostFetched_0 2 rfl rfl)
theorem dX0_mostFetched_3 : decode cX0_mostFetched 3 = .ok (.istore 4, 2) := dk_54 4 (dk_at dksX0_mostFetched_0 3 rfl rfl)
theorem dX0_mostFetched_5 : decode cX0_mostFetched 5 = .ok (.iload 4, 2) := dk_21 4 (dk_at dksX0_mostFetched_0 5 rfl rfl)
theorem dX0_mostFetched_7 : decode cX0_mostFetched 7 = .ok (.ifCond .le 44, 3) := dk_158 0 44 (dk_at dksX0_mostFetched_0 7 rfl rfl)
theorem dX0_mostFetched_10 : decode cX0_mostFetched 10 = .ok (.iload 4, 2) := dk_21 4 (dk_at dksX0_mostFetched_0 10 rfl rfl)
theorem dX0_mostFetched_12 : decode cX0_mostFetched 12 = .ok (.invokestatic 396, 3) := dk_184 1 140 (dk_at dksX0_mostFetched_0 12 rfl rfl)
theorem dX0_mostFetched_15 : decode cX0_mostFetched 15 = .ok (.istore 5, 2) := dk_54 5 (dk_at dksX0_mostFetched_0 15 rfl rfl)
theorem dX0_mostFetched_17 : decode cX0_mostFetched 17 = .ok (.iload 5, 2) := dk_21 5 (dk_at dksX0_mostFetched_0 17 rfl rfl)
theorem dX0_mostFetched_19 : decode cX0_mostFetched 19 = .ok (.iload_n 3, 1) := dk_29 (dk_at dksX0_mostFetched_0 19 rfl rfl)
theorem dX0_mostFetched_20 : decode cX0_mostFetched 20 = .ok (.if_icmp .le 18, 3) := dk_164 0 18 (dk_at dksX0_mostFetched_0 20 rfl rfl)
theorem dX0_mostFetched_23 : decode cX0_mostFetched 23 = .ok (.aload_n 0, 1) := dk_42 (dk_at dksX0_mostFetched_0 23 rfl rfl)
theorem dX0_mostFetched_24 : decode cX0_mostFetched 24 = .ok (.iload 4, 2) := dk_21 4 (dk_at dksX0_mostFetched_1 0 rfl rfl)
theorem dX0_mostFetched_26 : decode cX0_mostFetched 26 = .ok (.invokevirtual 409, 3) := dk_182 1 153 (dk_at dksX0_mostFetched_1 2 rfl rfl)
theorem dX0_mostFetched_29 : decode cX0_mostFetched 29 = .ok (.iload_n 2, 1) := dk_28 (dk_at dksX0_mostFetched_1 5 rfl rfl)
theorem dX0_mostFetched_30 : decode cX0_mostFetched 30 = .ok (.if_icmp .gt 8, 3) := dk_163 0 8 (dk_at dksX0_mostFetched_1 6 rfl rfl)
theorem dX0_mostFetched_33 : decode cX0_mostFetched 33 = .ok (.iload 5, 2) := dk_21 5 (dk_at dksX0_mostFetched_1 9 rfl rfl)
theorem dX0_mostFetched_35 : decode cX0_mostFetched 35 = .ok (.goto 4, 3) := dk_167 0 4 (dk_at dksX0_mostFetched_1 11 rfl rfl)
theorem dX0_mostFetched_38 : decode cX0_mostFetched 38 = .ok (.iload_n 3, 1) := dk_29 (dk_at dksX0_mostFetched_1 14 rfl rfl)
theorem dX0_mostFetched_39 : decode cX0_mostFetched 39 = .ok (.istore_n 3, 1) := dk_62 (dk_at dksX0_mostFetched_1 15 rfl rfl)
theorem dX0_mostFetched_40 : decode cX0_mostFetched 40 = .ok (.iload 4, 2) := dk_21 4 (dk_at dksX0_mostFetched_1 16 rfl rfl)
theorem dX0_mostFetched_42 : decode cX0_mostFetched 42 = .ok (.iconst 1, 1) := dk_4 (dk_at dksX0_mostFetched_1 18 rfl rfl)
theorem dX0_mostFetched_43 : decode cX0_mostFetched 43 = .ok (.isub, 1) := dk_100 (dk_at dksX0_mostFetched_1 19 rfl rfl)
theorem dX0_mostFetched_44 : decode cX0_mostFetched 44 = .ok (.iload_n 1, 1) := dk_27 (dk_at dksX0_mostFetched_1 20 rfl rfl)
theorem dX0_mostFetched_45 : decode cX0_mostFetched 45 = .ok (.iand, 1) := dk_126 (dk_at dksX0_mostFetched_1 21 rfl rfl)
theorem dX0_mostFetched_46 : decode cX0_mostFetched 46 = .ok (.istore 4, 2) := dk_54 4 (dk_at dksX0_mostFetched_1 22 rfl rfl)
theorem dX0_mostFetched_48 : decode cX0_mostFetched 48 = .ok (.goto (-43), 3) := dk_167 255 213 (dk_at dksX0_mostFetched_2 0 rfl rfl)
theorem dX0_mostFetched_51 : decode cX0_mostFetched 51 = .ok (.iload_n 3, 1) := dk_29 (dk_at dksX0_mostFetched_2 3 rfl rfl)
theorem dX0_mostFetched_52 : decode cX0_mostFetched 52 = .ok (.ireturn, 1) := dk_172 (dk_at dksX0_mostFetched_2 4 rfl rfl)
abbrev cX0_stand : ByteArray := prog_1_method_62_code
def yX0_stand : MethodName := ⟨RX0, "stand", "()I"⟩
def dkwX0_stand_5 : List UInt8 := [180, 1, 47, 29, 46, 167, 0, 6, 17, 0, 240, 96, 61, 132, 3, 1, 167, 255, 223, 28, 172]
abbrev dktX0_stand_5 : List UInt8 := dkwX0_stand_5 ++ []
def dkwX0_stand_4 : List UInt8 := [167, 255, 170, 3, 61, 3, 62, 29, 42, 180, 0, 98, 7, 46, 162, 0, 29, 28, 29, 27, 162, 0, 12, 42]
abbrev dktX0_stand_4 : List UInt8 := dkwX0_stand_4 ++ dktX0_stand_5
def dkwX0_stand_3 : List UInt8 := [167, 255, 214, 42, 180, 1, 47, 21, 4, 29, 42, 180, 0, 116, 100, 79, 132, 1, 1, 132, 2, 1]
abbrev dktX0_stand_3 : List UInt8 := dkwX0_stand_3 ++ dktX0_stand_4
def dkwX0_stand_2 : List UInt8 := [164, 0, 25, 42, 180, 1, 47, 21, 4, 42, 180, 1, 47, 21, 4, 4, 100, 46, 79, 132, 4, 255]
abbrev dktX0_stand_2 : List UInt8 := dkwX0_stand_2 ++ dktX0_stand_3
def dkwX0_stand_1 : List UInt8 := [54, 4, 21, 4, 158, 0, 43, 42, 180, 1, 47, 21, 4, 4, 100, 46, 29, 42, 180, 0, 116, 100]
abbrev dktX0_stand_1 : List UInt8 := dkwX0_stand_1 ++ dktX0_stand_2
def dkwX0_stand_0 : List UInt8 := [3, 60, 3, 61, 28, 42, 180, 0, 15, 162, 0, 84, 42, 28, 182, 1, 119, 62, 29, 2, 159, 0, 67, 27]
abbrev dktX0_stand_0 : List UInt8 := dkwX0_stand_0 ++ dktX0_stand_1
theorem dksX0_stand_0 : cX0_stand.data.toList.drop 0 = dktX0_stand_0 := by decide +kernel
theorem dksX0_stand_1 : cX0_stand.data.toList.drop 24 = dktX0_stand_1 := dk_seg dksX0_stand_0 24 rfl rfl
theorem dksX0_stand_2 : cX0_stand.data.toList.drop 46 = dktX0_stand_2 := dk_seg dksX0_stand_1 22 rfl rfl
theorem dksX0_stand_3 : cX0_stand.data.toList.drop 68 = dktX0_stand_3 := dk_seg dksX0_stand_2 22 rfl rfl
theorem dksX0_stand_4 : cX0_stand.data.toList.drop 90 = dktX0_stand_4 := dk_seg dksX0_stand_3 22 rfl rfl
theorem dksX0_stand_5 : cX0_stand.data.toList.drop 114 = dktX0_stand_5 := dk_seg dksX0_stand_4 24 rfl rfl
theorem dX0_stand_0 : decode cX0_stand 0 = .ok (.iconst 0, 1) := dk_3 (dk_at dksX0_stand_0 0 rfl rfl)
theorem dX0_stand_1 : decode cX0_stand 1 = .ok (.istore_n 1, 1) := dk_60 (dk_at dksX0_stand_0 1 rfl rfl)
theorem dX0_stand_2 : decode cX0_stand 2 = .ok (.iconst 0, 1) := dk_3 (dk_at dksX0_stand_0 2 rfl rfl)
theorem dX0_stand_3 : decode cX0_stand 3 = .ok (.istore_n 2, 1) := dk_61 (dk_at dksX0_stand_0 3 rfl rfl)
theorem dX0_stand_4 : decode cX0_stand 4 = .ok (.iload_n 2, 1) := dk_28 (dk_at dksX0_stand_0 4 rfl rfl)
theorem dX0_stand_5 : decode cX0_stand 5 = .ok (.aload_n 0, 1) := dk_42 (dk_at dksX0_stand_0 5 rfl rfl)
theorem dX0_stand_6 : decode cX0_stand 6 = .ok (.getfield 15, 3) := dk_180 0 15 (dk_at dksX0_stand_0 6 rfl rfl)
theorem dX0_stand_9 : decode cX0_stand 9 = .ok (.if_icmp .ge 84, 3) := dk_162 0 84 (dk_at dksX0_stand_0 9 rfl rfl)
theorem dX0_stand_12 : decode cX0_stand 12 = .ok (.aload_n 0, 1) := dk_42 (dk_at dksX0_stand_0 12 rfl rfl)
theorem dX0_stand_13 : decode cX0_stand 13 = .ok (.iload_n 2, 1) := dk_28 (dk_at dksX0_stand_0 13 rfl rfl)
theorem dX0_stand_14 : decode cX0_stand 14 = .ok (.invokevirtual 375, 3) := dk_182 1 119 (dk_at dksX0_stand_0 14 rfl rfl)
theorem dX0_stand_17 : decode cX0_stand 17 = .ok (.istore_n 3, 1) := dk_62 (dk_at dksX0_stand_0 17 rfl rfl)
theorem dX0_stand_18 : decode cX0_stand 18 = .ok (.iload_n 3, 1) := dk_29 (dk_at dksX0_stand_0 18 rfl rfl)
theorem dX0_stand_19 : decode cX0_stand 19 = .ok (.iconst (-1), 1) := dk_2 (dk_at dksX0_stand_0 19 rfl rfl)
theorem dX0_stand_20 : decode cX0_stand 20 = .ok (.if_icmp .eq 67, 3) := dk_159 0 67 (dk_at dksX0_stand_0 20 rfl rfl)
theorem dX0_stand_23 : decode cX0_stand 23 = .ok (.iload_n 1, 1) := dk_27 (dk_at dksX0_stand_0 23 rfl rfl)
theorem dX0_stand_24 : decode cX0_stand 24 = .ok (.istore 4, 2) := dk_54 4 (dk_at dksX0_stand_1 0 rfl rfl)
theorem dX0_stand_26 : decode cX0_stand 26 = .ok (.iload 4, 2) := dk_21 4 (dk_at dksX0_stand_1 2 rfl rfl)
theorem dX0_stand_28 : decode cX0_stand 28 = .ok (.ifCond .le 43, 3) := dk_158 0 43 (dk_at dksX0_stand_1 4 rfl rfl)
theorem dX0_stand_31 : decode cX0_stand 31 = .ok (.aload_n 0, 1) := dk_42 (dk_at dksX0_stand_1 7 rfl rfl)
theorem dX0_stand_32 : decode cX0_stand 32 = .ok (.getfield 303, 3) := dk_180 1 47 (dk_at dksX0_stand_1 8 rfl rfl)
theorem dX0_stand_35 : decode cX0_stand 35 = .ok (.iload 4, 2) := dk_21 4 (dk_at dksX0_stand_1 11 rfl rfl)
theorem dX0_stand_37 : decode cX0_stand 37 = .ok (.iconst 1, 1) := dk_4 (dk_at dksX0_stand_1 13 rfl rfl)
theorem dX0_stand_38 : decode cX0_stand 38 = .ok (.isub, 1) := dk_100 (dk_at dksX0_stand_1 14 rfl rfl)
theorem dX0_stand_39 : decode cX0_stand 39 = .ok (.iaload, 1) := dk_46 (dk_at dksX0_stand_1 15 rfl rfl)
theorem dX0_stand_40 : decode cX0_stand 40 = .ok (.iload_n 3, 1) := dk_29 (dk_at dksX0_stand_1 16 rfl rfl)
theorem dX0_stand_41 : decode cX0_stand 41 = .ok (.aload_n 0, 1) := dk_42 (dk_at dksX0_stand_1 17 rfl rfl)
theorem dX0_stand_42 : decode cX0_stand 42 = .ok (.getfield 116, 3) := dk_180 0 116 (dk_at dksX0_stand_1 18 rfl rfl)
theorem dX0_stand_45 : decode cX0_stand 45 = .ok (.isub, 1) := dk_100 (dk_at dksX0_stand_1 21 rfl rfl)
theorem dX0_stand_46 : decode cX0_stand 46 = .ok (.if_icmp .le 25, 3) := dk_164 0 25 (dk_at dksX0_stand_2 0 rfl rfl)
theorem dX0_stand_49 : decode cX0_stand 49 = .ok (.aload_n 0, 1) := dk_42 (dk_at dksX0_stand_2 3 rfl rfl)
theorem dX0_stand_50 : decode cX0_stand 50 = .ok (.getfield 303, 3) := dk_180 1 47 (dk_at dksX0_stand_2 4 rfl rfl)
theorem dX0_stand_53 : decode cX0_stand 53 = .ok (.iload 4, 2) := dk_21 4 (dk_at dksX0_stand_2 7 rfl rfl)
theorem dX0_stand_55 : decode cX0_stand 55 = .ok (.aload_n 0, 1) := dk_42 (dk_at dksX0_stand_2 9 rfl rfl)
theorem dX0_stand_56 : decode cX0_stand 56 = .ok (.getfield 303, 3) := dk_180 1 47 (dk_at dksX0_stand_2 10 rfl rfl)
theorem dX0_stand_59 : decode cX0_stand 59 = .ok (.iload 4, 2) := dk_21 4 (dk_at dksX0_stand_2 13 rfl rfl)
theorem dX0_stand_61 : decode cX0_stand 61 = .ok (.iconst 1, 1) := dk_4 (dk_at dksX0_stand_2 15 rfl rfl)
theorem dX0_stand_62 : decode cX0_stand 62 = .ok (.isub, 1) := dk_100 (dk_at dksX0_stand_2 16 rfl rfl)
theorem dX0_stand_63 : decode cX0_stand 63 = .ok (.iaload, 1) := dk_46 (dk_at dksX0_stand_2 17 rfl rfl)
theorem dX0_stand_64 : decode cX0_stand 64 = .ok (.iastore, 1) := dk_79 (dk_at dksX0_stand_2 18 rfl rfl)
theorem dX0_stand_65 : decode cX0_stand 65 = .ok (.iinc 4 (-1), 3) := dk_132 4 255 (dk_at dksX0_stand_2 19 rfl rfl)
theorem dX0_stand_68 : decode cX0_stand 68 = .ok (.goto (-42), 3) := dk_167 255 214 (dk_at dksX0_stand_3 0 rfl rfl)
theorem dX0_stand_71 : decode cX0_stand 71 = .ok (.aload_n 0, 1) := dk_42 (dk_at dksX0_stand_3 3 rfl rfl)
theorem dX0_stand_72 : decode cX0_stand 72 = .ok (.getfield 303, 3) := dk_180 1 47 (dk_at dksX0_stand_3 4 rfl rfl)
theorem dX0_stand_75 : decode cX0_stand 75 = .ok (.iload 4, 2) := dk_21 4 (dk_at dksX0_stand_3 7 rfl rfl)
theorem dX0_stand_77 : decode cX0_stand 77 = .ok (.iload_n 3, 1) := dk_29 (dk_at dksX0_stand_3 9 rfl rfl)
theorem dX0_stand_78 : decode cX0_stand 78 = .ok (.aload_n 0, 1) := dk_42 (dk_at dksX0_stand_3 10 rfl rfl)
theorem dX0_stand_79 : decode cX0_stand 79 = .ok (.getfield 116, 3) := dk_180 0 116 (dk_at dksX0_stand_3 11 rfl rfl)
theorem dX0_stand_82 : decode cX0_stand 82 = .ok (.isub, 1) := dk_100 (dk_at dksX0_stand_3 14 rfl rfl)
theorem dX0_stand_83 : decode cX0_stand 83 = .ok (.iastore, 1) := dk_79 (dk_at dksX0_stand_3 15 rfl rfl)
theorem dX0_stand_84 : decode cX0_stand 84 = .ok (.iinc 1 1, 3) := dk_132 1 1 (dk_at dksX0_stand_3 16 rfl rfl)
theorem dX0_stand_87 : decode cX0_stand 87 = .ok (.iinc 2 1, 3) := dk_132 2 1 (dk_at dksX0_stand_3 19 rfl rfl)
theorem dX0_stand_90 : decode cX0_stand 90 = .ok (.goto (-86), 3) := dk_167 255 170 (dk_at dksX0_stand_4 0 rfl rfl)
theorem dX0_stand_93 : decode cX0_stand 93 = .ok (.iconst 0, 1) := dk_3 (dk_at dksX0_stand_4 3 rfl rfl)
theorem dX0_stand_94 : decode cX0_stand 94 = .ok (.istore_n 2, 1) := dk_61 (dk_at dksX0_stand_4 4 rfl rfl)
theorem dX0_stand_95 : decode cX0_stand 95 = .ok (.iconst 0, 1) := dk_3 (dk_at dksX0_stand_4 5 rfl rfl)
theorem dX0_stand_96 : decode cX0_stand 96 = .ok (.istore_n 3, 1) := dk_62 (dk_at dksX0_stand_4 6 rfl rfl)
theorem dX0_stand_97 : decode cX0_stand 97 = .ok (.iload_n 3, 1) := dk_29 (dk_at dksX0_stand_4 7 rfl rfl)
theorem dX0_stand_98 : decode cX0_stand 98 = .ok (.aload_n 0, 1) := dk_42 (dk_at dksX0_stand_4 8 rfl rfl)
theorem dX0_stand_99 : decode cX0_stand 99 = .ok (.getfield 98, 3) := dk_180 0 98 (dk_at dksX0_stand_4 9 rfl rfl)
theorem dX0_stand_102 : decode cX0_stand 102 = .ok (.iconst 4, 1) := dk_7 (dk_at dksX0_stand_4 12 rfl rfl)
theorem dX0_stand_103 : decode cX0_stand 103 = .ok (.iaload, 1) := dk_46 (dk_at dksX0_stand_4 13 rfl rfl)
theorem dX0_stand_104 : decode cX0_stand 104 = .ok (.if_icmp .ge 29, 3) := dk_162 0 29 (dk_at dksX0_stand_4 14 rfl rfl)
theorem dX0_stand_107 : decode cX0_stand 107 = .ok (.iload_n 2, 1) := dk_28 (dk_at dksX0_stand_4 17 rfl rfl)
theorem dX0_stand_108 : decode cX0_stand 108 = .ok (.iload_n 3, 1) := dk_29 (dk_at dksX0_stand_4 18 rfl rfl)
theorem dX0_stand_109 : decode cX0_stand 109 = .ok (.iload_n 1, 1) := dk_27 (dk_at dksX0_stand_4 19 rfl rfl)
theorem dX0_stand_110 : decode cX0_stand 110 = .ok (.if_icmp .ge 12, 3) := dk_162 0 12 (dk_at dksX0_stand_4 20 rfl rfl)
theorem dX0_stand_113 : decode cX0_stand 113 = .ok (.aload_n 0, 1) := dk_42 (dk_at dksX0_stand_4 23 rfl rfl)
theorem dX0_stand_114 : decode cX0_stand 114 = .ok (.getfield 303, 3) := dk_180 1 47 (dk_at dksX0_stand_5 0 rfl rfl)
theorem dX0_stand_117 : decode cX0_stand 117 = .ok (.iload_n 3, 1) := dk_29 (dk_at dksX0_stand_5 3 rfl rfl)
theorem dX0_stand_118 : decode cX0_stand 118 = .ok (.iaload, 1) := dk_46 (dk_at dksX0_stand_5 4 rfl rfl)
theorem dX0_stand_119 : decode cX0_stand 119 = .ok (.goto 6, 3) := dk_167 0 6 (dk_at dksX0_stand_5 5 rfl rfl)
theorem dX0_stand_122 : decode cX0_stand 122 = .ok (.sipush 240, 3) := dk_17 0 240 (dk_at dksX0_stand_5 8 rfl rfl)
theorem dX0_stand_125 : decode cX0_stand 125 = .ok (.iadd, 1) := dk_96 (dk_at dksX0_stand_5 11 rfl rfl)
theorem dX0_stand_126 : decode cX0_stand 126 = .ok (.istore_n 2, 1) := dk_61 (dk_at dksX0_stand_5 12 rfl rfl)
theorem dX0_stand_127 : decode cX0_stand 127 = .ok (.iinc 3 1, 3) := dk_132 3 1 (dk_at dksX0_stand_5 13 rfl rfl)
theorem dX0_stand_130 : decode cX0_stand 130 = .ok (.goto (-33), 3) := dk_167 255 223 (dk_at dksX0_stand_5 16 rfl rfl)
theorem dX0_stand_133 : decode cX0_stand 133 = .ok (.iload_n 2, 1) := dk_28 (dk_at dksX0_stand_5 19 rfl rfl)
theorem dX0_stand_134 : decode cX0_stand 134 = .ok (.ireturn, 1) := dk_172 (dk_at dksX0_stand_5 20 rfl rfl)
abbrev cX0_heard : ByteArray := prog_1_method_63_code
def yX0_heard : MethodName := ⟨RX0, "heard", "(I)I"⟩
def dkwX0_heard_6 : List UInt8 := [167, 255, 162, 2, 172]
abbrev dktX0_heard_6 : List UInt8 := dkwX0_heard_6 ++ []
def dkwX0_heard_5 : List UInt8 := [182, 0, 113, 21, 6, 4, 160, 0, 7, 4, 167, 0, 4, 3, 159, 0, 6, 21, 4, 172, 132, 4, 1]
abbrev dktX0_heard_5 : List UInt8 := dkwX0_heard_5 ++ dktX0_heard_6
def dkwX0_heard_4 : List UInt8 := [21, 6, 133, 9, 10, 184, 0, 5, 153, 0, 33, 42, 180, 0, 66, 21, 5, 46, 154, 0, 23, 42, 21, 5]
abbrev dktX0_heard_4 : List UInt8 := dkwX0_heard_4 ++ dktX0_heard_5
def dkwX0_heard_3 : List UInt8 := [184, 1, 169, 5, 21, 4, 104, 4, 96, 184, 1, 177, 54, 6, 42, 21, 5, 182, 0, 72, 153, 0, 44]
abbrev dktX0_heard_3 : List UInt8 := dkwX0_heard_3 ++ dktX0_heard_4
def dkwX0_heard_2 : List UInt8 := [21, 4, 29, 5, 108, 162, 0, 92, 44, 44, 184, 1, 169, 5, 21, 4, 104, 184, 1, 177, 54, 5, 44, 44]
abbrev dktX0_heard_2 : List UInt8 := dkwX0_heard_2 ++ dktX0_heard_3
def dkwX0_heard_1 : List UInt8 := [16, 245, 172, 44, 44, 184, 1, 169, 184, 1, 173, 62, 29, 5, 112, 153, 0, 6, 16, 254, 172, 3, 54, 4]
abbrev dktX0_heard_1 : List UInt8 := dkwX0_heard_1 ++ dktX0_heard_2
def dkwX0_heard_0 : List UInt8 := [27, 184, 1, 162, 154, 0, 6, 16, 254, 172, 42, 180, 1, 64, 27, 50, 180, 1, 165, 77, 44, 199, 0, 6]
abbrev dktX0_heard_0 : List UInt8 := dkwX0_heard_0 ++ dktX0_heard_1
theorem dksX0_heard_0 : cX0_heard.data.toList.drop 0 = dktX0_heard_0 := by decide +kernel
theorem dksX0_heard_1 : cX0_heard.data.toList.drop 24 = dktX0_heard_1 := dk_seg dksX0_heard_0 24 rfl rfl
theorem dksX0_heard_2 : cX0_heard.data.toList.drop 48 = dktX0_heard_2 := dk_seg dksX0_heard_1 24 rfl rfl
theorem dksX0_heard_3 : cX0_heard.data.toList.drop 72 = dktX0_heard_3 := dk_seg dksX0_heard_2 24 rfl rfl
theorem dksX0_heard_4 : cX0_heard.data.toList.drop 95 = dktX0_heard_4 := dk_seg dksX0_heard_3 23 rfl rfl
theorem dksX0_heard_5 : cX0_heard.data.toList.drop 119 = dktX0_heard_5 := dk_seg dksX0_heard_4 24 rfl rfl
theorem dksX0_heard_6 : cX0_heard.data.toList.drop 142 = dktX0_heard_6 := dk_seg dksX0_heard_5 23 rfl rfl
theorem dX0_heard_0 : decode cX0_heard 0 = .ok (.iload_n 1, 1) := dk_27 (dk_at dksX0_heard_0 0 rfl rfl)
theorem dX0_heard_1 : decode cX0_heard 1 = .ok (.invokestatic 418, 3) := dk_184 1 162 (dk_at dksX0_heard_0 1 rfl rfl)
theorem dX0_heard_4 : decode cX0_heard 4 = .ok (.ifCond .ne 6, 3) := dk_154 0 6 (dk_at dksX0_heard_0 4 rfl rfl)
theorem dX0_heard_7 : decode cX0_heard 7 = .ok (.bipush (-2), 2) := dk_16 254 (dk_at dksX0_heard_0 7 rfl rfl)
theorem dX0_heard_9 : decode cX0_heard 9 = .ok (.ireturn, 1) := dk_172 (dk_at dksX0_heard_0 9 rfl rfl)
theorem dX0_heard_10 : decode cX0_heard 10 = .ok (.aload_n 0, 1) := dk_42 (dk_at dksX0_heard_0 10 rfl rfl)
theorem dX0_heard_11 : decode cX0_heard 11 = .ok (.getfield 320, 3) := dk_180 1 64 (dk_at dksX0_heard_0 11 rfl rfl)
theorem dX0_heard_14 : decode cX0_heard 14 = .ok (.iload_n 1, 1) := dk_27 (dk_at dksX0_heard_0 14 rfl rfl)
theorem dX0_heard_15 : decode cX0_heard 15 = .ok (.aaload, 1) := dk_50 (dk_at dksX0_heard_0 15 rfl rfl)
theorem dX0_heard_16 : decode cX0_heard 16 = .ok (.getfield 421, 3) := dk_180 1 165 (dk_at dksX0_heard_0 16 rfl rfl)
theorem dX0_heard_19 : decode cX0_heard 19 = .ok (.astore_n 2, 1) := dk_77 (dk_at dksX0_heard_0 19 rfl rfl)
theorem dX0_heard_20 : decode cX0_heard 20 = .ok (.aload_n 2, 1) := dk_44 (dk_at dksX0_heard_0 20 rfl rfl)
theorem dX0_heard_21 : decode cX0_heard 21 = .ok (.ifnonnull 6, 3) := dk_199 0 6 (dk_at dksX0_heard_0 21 rfl rfl)
theorem dX0_heard_24 : decode cX0_heard 24 = .ok (.bipush (-11), 2) := dk_16 245 (dk_at dksX0_heard_1 0 rfl rfl)
theorem dX0_heard_26 : decode cX0_heard 26 = .ok (.ireturn, 1) := dk_172 (dk_at dksX0_heard_1 2 rfl rfl)
theorem dX0_heard_27 : decode cX0_heard 27 = .ok (.aload_n 2, 1) := dk_44 (dk_at dksX0_heard_1 3 rfl rfl)
theorem dX0_heard_28 : decode cX0_heard 28 = .ok (.aload_n 2, 1) := dk_44 (dk_at dksX0_heard_1 4 rfl rfl)
theorem dX0_heard_29 : decode cX0_heard 29 = .ok (.invokestatic 425, 3) := dk_184 1 169 (dk_at dksX0_heard_1 5 rfl rfl)
theorem dX0_heard_32 : decode cX0_heard 32 = .ok (.invokestatic 429, 3) := dk_184 1 173 (dk_at dksX0_heard_1 8 rfl rfl)
theorem dX0_heard_35 : decode cX0_heard 35 = .ok (.istore_n 3, 1) := dk_62 (dk_at dksX0_heard_1 11 rfl rfl)
theorem dX0_heard_36 : decode cX0_heard 36 = .ok (.iload_n 3, 1) := dk_29 (dk_at dksX0_heard_1 12 rfl rfl)
theorem dX0_heard_37 : decode cX0_heard 37 = .ok (.iconst 2, 1) := dk_5 (dk_at dksX0_heard_1 13 rfl rfl)
theorem dX0_heard_38 : decode cX0_heard 38 = .ok (.irem, 1) := dk_112 (dk_at dksX0_heard_1 14 rfl rfl)
theorem dX0_heard_39 : decode cX0_heard 39 = .ok (.ifCond .eq 6, 3) := dk_153 0 6 (dk_at dksX0_heard_1 15 rfl rfl)
theorem dX0_heard_42 : decode cX0_heard 42 = .ok (.bipush (-2), 2) := dk_16 254 (dk_at dksX0_heard_1 18 rfl rfl)
theorem dX0_heard_44 : decode cX0_heard 44 = .ok (.ireturn, 1) := dk_172 (dk_at dksX0_heard_1 20 rfl rfl)
theorem dX0_heard_45 : decode cX0_heard 45 = .ok (.iconst 0, 1) := dk_3 (dk_at dksX0_heard_1 21 rfl rfl)
theorem dX0_heard_46 : decode cX0_heard 46 = .ok (.istore 4, 2) := dk_54 4 (dk_at dksX0_heard_1 22 rfl rfl)
theorem dX0_heard_48 : decode cX0_heard 48 = .ok (.iload 4, 2) := dk_21 4 (dk_at dksX0_heard_2 0 rfl rfl)
theorem dX0_heard_50 : decode cX0_heard 50 = .ok (.iload_n 3, 1) := dk_29 (dk_at dksX0_heard_2 2 rfl rfl)
theorem dX0_heard_51 : decode cX0_heard 51 = .ok (.iconst 2, 1) := dk_5 (dk_at dksX0_heard_2 3 rfl rfl)
theorem dX0_heard_52 : decode cX0_heard 52 = .ok (.idiv, 1) := dk_108 (dk_at dksX0_heard_2 4 rfl rfl)
theorem dX0_heard_53 : decode cX0_heard 53 = .ok (.if_icmp .ge 92, 3) := dk_162 0 92 (dk_at dksX0_heard_2 5 rfl rfl)
theorem dX0_heard_56 : decode cX0_heard 56 = .ok (.aload_n 2, 1) := dk_44 (dk_at dksX0_heard_2 8 rfl rfl)
theorem dX0_heard_57 : decode cX0_heard 57 = .ok (.aload_n 2, 1) := dk_44 (dk_at dksX0_heard_2 9 rfl rfl)
theorem dX0_heard_58 : decode cX0_heard 58 = .ok (.invokestatic 425, 3) := dk_184 1 169 (dk_at dksX0_heard_2 10 rfl rfl)
theorem dX0_heard_61 : decode cX0_heard 61 = .ok (.iconst 2, 1) := dk_5 (dk_at dksX0_heard_2 13 rfl rfl)
theorem dX0_heard_62 : decode cX0_heard 62 = .ok (.iload 4, 2) := dk_21 4 (dk_at dksX0_heard_2 14 rfl rfl)
theorem dX0_heard_64 : decode cX0_heard 64 = .ok (.imul, 1) := dk_104 (dk_at dksX0_heard_2 16 rfl rfl)
theorem dX0_heard_65 : decode cX0_heard 65 = .ok (.invokestatic 433, 3) := dk_184 1 177 (dk_at dksX0_heard_2 17 rfl rfl)
theorem dX0_heard_68 : decode cX0_heard 68 = .ok (.istore 5, 2) := dk_54 5 (dk_at dksX0_heard_2 20 rfl rfl)
theorem dX0_heard_70 : decode cX0_heard 70 = .ok (.aload_n 2, 1) := dk_44 (dk_at dksX0_heard_2 22 rfl rfl)
theorem dX0_heard_71 : decode cX0_heard 71 = .ok (.aload_n 2, 1) := dk_44 (dk_at dksX0_heard_2 23 rfl rfl)
theorem dX0_heard_72 : decode cX0_heard 72 = .ok (.invokestatic 425, 3) := dk_184 1 169 (dk_at dksX0_heard_3 0 rfl rfl)
theorem dX0_heard_75 : decode cX0_heard 75 = .ok (.iconst 2, 1) := dk_5 (dk_at dksX0_heard_3 3 rfl rfl)
theorem dX0_heard_76 : decode cX0_heard 76 = .ok (.iload 4, 2) := dk_21 4 (dk_at dksX0_heard_3 4 rfl rfl)
theorem dX0_heard_78 : decode cX0_heard 78 = .ok (.imul, 1) := dk_104 (dk_at dksX0_heard_3 6 rfl rfl)
theorem dX0_heard_79 : decode cX0_heard 79 = .ok (.iconst 1, 1) := dk_4 (dk_at dksX0_heard_3 7 rfl rfl)
theorem dX0_heard_80 : decode cX0_heard 80 = .ok (.iadd, 1) := dk_96 (dk_at dksX0_heard_3 8 rfl rfl)
theorem dX0_heard_81 : decode cX0_heard 81 = .ok (.invokestatic 433, 3) := dk_184 1 177 (dk_at dksX0_heard_3 9 rfl rfl)
theorem dX0_heard_84 : decode cX0_heard 84 = .ok (.istore 6, 2) := dk_54 6 (dk_at dksX0_heard_3 12 rfl rfl)
theorem dX0_heard_86 : decode cX0_heard 86 = .ok (.aload_n 0, 1) := dk_42 (dk_at dksX0_heard_3 14 rfl rfl)
theorem dX0_heard_87 : decode cX0_heard 87 = .ok (.iload 5, 2) := dk_21 5 (dk_at dksX0_heard_3 15 rfl rfl)
theorem dX0_heard_89 : decode cX0_heard 89 = .ok (.invokevirtual 72, 3) := dk_182 0 72 (dk_at dksX0_heard_3 17 rfl rfl)
theorem dX0_heard_92 : decode cX0_heard 92 = .ok (.ifCond .eq 44, 3) := dk_153 0 44 (dk_at dksX0_heard_3 20 rfl rfl)
theorem dX0_heard_95 : decode cX0_heard 95 = .ok (.iload 6, 2) := dk_21 6 (dk_at dksX0_heard_4 0 rfl rfl)
theorem dX0_heard_97 : decode cX0_heard 97 = .ok (.i2l, 1) := dk_133 (dk_at dksX0_heard_4 2 rfl rfl)
theorem dX0_heard_98 : decode cX0_heard 98 = .ok (.lconst 0, 1) := dk_9 (dk_at dksX0_heard_4 3 rfl rfl)
theorem dX0_heard_99 : decode cX0_heard 99 = .ok (.lconst 1, 1) := dk_10 (dk_at dksX0_heard_4 4 rfl rfl)
theorem dX0_heard_100 : decode cX0_heard 100 = .ok (.invokestatic 5, 3) := dk_184 0 5 (dk_at dksX0_heard_4 5 rfl rfl)
theorem dX0_heard_103 : decode cX0_heard 103 = .ok (.ifCond .eq 33, 3) := dk_153 0 33 (dk_at dksX0_heard_4 8 rfl rfl)
theorem dX0_heard_106 : decode cX0_heard 106 = .ok (.aload_n 0, 1) := dk_42 (dk_at dksX0_heard_4 11 rfl rfl)
theorem dX0_heard_107 : decode cX0_heard 107 = .ok (.getfield 66, 3) := dk_180 0 66 (dk_at dksX0_heard_4 12 rfl rfl)
theorem dX0_heard_110 : decode cX0_heard 110 = .ok (.iload 5, 2) := dk_21 5 (dk_at dksX0_heard_4 15 rfl rfl)
theorem dX0_heard_112 : decode cX0_heard 112 = .ok (.iaload, 1) := dk_46 (dk_at dksX0_heard_4 17 rfl rfl)
theorem dX0_heard_113 : decode cX0_heard 113 = .ok (.ifCond .ne 23, 3) := dk_154 0 23 (dk_at dksX0_heard_4 18 rfl rfl)
theorem dX0_heard_116 : decode cX0_heard 116 = .ok (.aload_n 0, 1) := dk_42 (dk_at dksX0_heard_4 21 rfl rfl)
theorem dX0_heard_117 : decode cX0_heard 117 = .ok (.iload 5, 2) := dk_21 5 (dk_at dksX0_heard_4 22 rfl rfl)
theorem dX0_heard_119 : decode cX0_heard 119 = .ok (.invokevirtual 113, 3) := dk_182 0 113 (dk_at dksX0_heard_5 0 rfl rfl)
theorem dX0_heard_122 : decode cX0_heard 122 = .ok (.iload 6, 2) := dk_21 6 (dk_at dksX0_heard_5 3 rfl rfl)
theorem dX0_heard_124 : decode cX0_heard 124 = .ok (.iconst 1, 1) := dk_4 (dk_at dksX0_heard_5 5 rfl rfl)
theorem dX0_heard_125 : decode cX0_heard 125 = .ok (.if_icmp .ne 7, 3) := dk_160 0 7 (dk_at dksX0_heard_5 6 rfl rfl)
theorem dX0_heard_128 : decode cX0_heard 128 = .ok (.iconst 1, 1) := dk_4 (dk_at dksX0_heard_5 9 rfl rfl)
theorem dX0_heard_129 : decode cX0_heard 129 = .ok (.goto 4, 3) := dk_167 0 4 (dk_at dksX0_heard_5 10 rfl rfl)
theorem dX0_heard_132 : decode cX0_heard 132 = .ok (.iconst 0, 1) := dk_3 (dk_at dksX0_heard_5 13 rfl rfl)
theorem dX0_heard_133 : decode cX0_heard 133 = .ok (.if_icmp .eq 6, 3) := dk_159 0 6 (dk_at dksX0_heard_5 14 rfl rfl)
theorem dX0_heard_136 : decode cX0_heard 136 = .ok (.iload 4, 2) := dk_21 4 (dk_at dksX0_heard_5 17 rfl rfl)
theorem dX0_heard_138 : decode cX0_heard 138 = .ok (.ireturn, 1) := dk_172 (dk_at dksX0_heard_5 19 rfl rfl)
theorem dX0_heard_139 : decode cX0_heard 139 = .ok (.iinc 4 1, 3) := dk_132 4 1 (dk_at dksX0_heard_5 20 rfl rfl)
theorem dX0_heard_142 : decode cX0_heard 142 = .ok (.goto (-94), 3) := dk_167 255 162 (dk_at dksX0_heard_6 0 rfl rfl)
theorem dX0_heard_145 : decode cX0_heard 145 = .ok (.iconst (-1), 1) := dk_2 (dk_at dksX0_heard_6 3 rfl rfl)
theorem dX0_heard_146 : decode cX0_heard 146 = .ok (.ireturn, 1) := dk_172 (dk_at dksX0_heard_6 4 rfl rfl)
abbrev cX0_isSheet : ByteArray := prog_1_method_72_code
def yX0_isSheet : MethodName := ⟨RX0, "isSheet", "(I)Z"⟩
def dkwX0_isSheet_0 : List UInt8 := [26, 133, 9, 20, 0, 82, 184, 0, 5, 172]
abbrev dktX0_isSheet_0 : List UInt8 := dkwX0_isSheet_0 ++ []
theorem dksX0_isSheet_0 : cX0_isSheet.data.toList.drop 0 = dktX0_isSheet_0 := by decide +kernel
theorem dX0_isSheet_0 : decode cX0_isSheet 0 = .ok (.iload_n 0, 1) := dk_26 (dk_at dksX0_isSheet_0 0 rfl rfl)
theorem dX0_isSheet_1 : decode cX0_isSheet 1 = .ok (.i2l, 1) := dk_133 (dk_at dksX0_isSheet_0 1 rfl rfl)
theorem dX0_isSheet_2 : decode cX0_isSheet 2 = .ok (.lconst 0, 1) := dk_9 (dk_at dksX0_isSheet_0 2 rfl rfl)
theorem dX0_isSheet_3 : decode cX0_isSheet 3 = .ok (.ldc2_w 82, 3) := dk_20 0 82 (dk_at dksX0_isSheet_0 3 rfl rfl)
theorem dX0_isSheet_6 : decode cX0_isSheet 6 = .ok (.invokestatic 5, 3) := dk_184 0 5 (dk_at dksX0_isSheet_0 6 rfl rfl)
theorem dX0_isSheet_9 : decode cX0_isSheet 9 = .ok (.ireturn, 1) := dk_172 (dk_at dksX0_isSheet_0 9 rfl rfl)
abbrev cX0_sortOf : ByteArray := prog_1_method_80_code
def yX0_sortOf : MethodName := ⟨RX0, "sortOf", "(Ljava/lang/Object;)I"⟩
def dkwX0_sortOf_0 : List UInt8 := [42, 193, 1, 210, 153, 0, 7, 3, 167, 0, 15, 42, 193, 1, 214, 153, 0, 7, 4, 167, 0, 4, 5, 172]
abbrev dktX0_sortOf_0 : List UInt8 := dkwX0_sortOf_0 ++ []
theorem dksX0_sortOf_0 : cX0_sortOf.data.toList.drop 0 = dktX0_sortOf_0 := by decide +kernel
theorem dX0_sortOf_0 : decode cX0_sortOf 0 = .ok (.aload_n 0, 1) := dk_42 (dk_at dksX0_sortOf_0 0 rfl rfl)
theorem dX0_sortOf_1 : decode cX0_sortOf 1 = .ok (.instanceof 466, 3) := dk_193 1 210 (dk_at dksX0_sortOf_0 1 rfl rfl)
theorem dX0_sortOf_4 : decode cX0_sortOf 4 = .ok (.ifCond .eq 7, 3) := dk_153 0 7 (dk_at dksX0_sortOf_0 4 rfl rfl)
theorem dX0_sortOf_7 : decode cX0_sortOf 7 = .ok (.iconst 0, 1) := dk_3 (dk_at dksX0_sortOf_0 7 rfl rfl)
theorem dX0_sortOf_8 : decode cX0_sortOf 8 = .ok (.goto 15, 3) := dk_167 0 15 (dk_at dksX0_sortOf_0 8 rfl rfl)
theorem dX0_sortOf_11 : decode cX0_sortOf 11 = .ok (.aload_n 0, 1) := dk_42 (dk_at dksX0_sortOf_0 11 rfl rfl)
theorem dX0_sortOf_12 : decode cX0_sortOf 12 = .ok (.instanceof 470, 3) := dk_193 1 214 (dk_at dksX0_sortOf_0 12 rfl rfl)
theorem dX0_sortOf_15 : decode cX0_sortOf 15 = .ok (.ifCond .eq 7, 3) := dk_153 0 7 (dk_at dksX0_sortOf_0 15 rfl rfl)
theorem dX0_sortOf_18 : decode cX0_sortOf 18 = .ok (.iconst 1, 1) := dk_4 (dk_at dksX0_sortOf_0 18 rfl rfl)
theorem dX0_sortOf_19 : decode cX0_sortOf 19 = .ok (.goto 4, 3) := dk_167 0 4 (dk_at dksX0_sortOf_0 19 rfl rfl)
theorem dX0_sortOf_22 : decode cX0_sortOf 22 = .ok (.iconst 2, 1) := dk_5 (dk_at dksX0_sortOf_0 22 rfl rfl)
theorem dX0_sortOf_23 : decode cX0_sortOf 23 = .ok (.ireturn, 1) := dk_172 (dk_at dksX0_sortOf_0 23 rfl rfl)
abbrev cX0_lengthOf : ByteArray := prog_1_method_78_code
def yX0_lengthOf : MethodName := ⟨RX0, "lengthOf", "(Ljava/lang/Object;I)I"⟩
def dkwX0_lengthOf_2 : List UInt8 := [42, 192, 1, 210, 190, 172, 42, 192, 1, 214, 190, 172, 42, 192, 1, 216, 190, 172]
abbrev dktX0_lengthOf_2 : List UInt8 := dkwX0_lengthOf_2 ++ []
def dkwX0_lengthOf_1 : List UInt8 := [171, 0, 0, 0, 0, 0, 39, 0, 0, 0, 2, 0, 0, 0, 0, 0, 0, 0, 27, 0, 0, 0, 1, 0, 0, 0, 33]
abbrev dktX0_lengthOf_1 : List UInt8 := dkwX0_lengthOf_1 ++ dktX0_lengthOf_2
def dkwX0_lengthOf_0 : List UInt8 := [27]
abbrev dktX0_lengthOf_0 : List UInt8 := dkwX0_lengthOf_0 ++ dktX0_lengthOf_1
theorem dksX0_lengthOf_0 : cX0_lengthOf.data.toList.drop 0 = dktX0_lengthOf_0 := by decide +kernel
theorem dksX0_lengthOf_1 : cX0_lengthOf.data.toList.drop 1 = dktX0_lengthOf_1 := dk_seg dksX0_lengthOf_0 1 rfl rfl
theorem dksX0_lengthOf_2 : cX0_lengthOf.data.toList.drop 28 = dktX0_lengthOf_2 := dk_seg dksX0_lengthOf_1 27 rfl rfl
theorem dX0_lengthOf_0 : decode cX0_lengthOf 0 = .ok (.iload_n 1, 1) := dk_27 (dk_at dksX0_lengthOf_0 0 rfl rfl)
theorem dX0_lengthOf_1 : decode cX0_lengthOf 1 = .ok (.lookupswitch 39 #[(0, 27), (1, 33)], 27) := by decide +kernel
theorem dX0_lengthOf_28 : decode cX0_lengthOf 28 = .ok (.aload_n 0, 1) := dk_42 (dk_at dksX0_lengthOf_2 0 rfl rfl)
theorem dX0_lengthOf_29 : decode cX0_lengthOf 29 = .ok (.checkcast 466, 3) := dk_192 1 210 (dk_at dksX0_lengthOf_2 1 rfl rfl)
theorem dX0_lengthOf_32 : decode cX0_lengthOf 32 = .ok (.arraylength, 1) := dk_190 (dk_at dksX0_lengthOf_2 4 rfl rfl)
theorem dX0_lengthOf_33 : decode cX0_lengthOf 33 = .ok (.ireturn, 1) := dk_172 (dk_at dksX0_lengthOf_2 5 rfl rfl)
theorem dX0_lengthOf_34 : decode cX0_lengthOf 34 = .ok (.aload_n 0, 1) := dk_42 (dk_at dksX0_lengthOf_2 6 rfl rfl)
theorem dX0_lengthOf_35 : decode cX0_lengthOf 35 = .ok (.checkcast 470, 3) := dk_192 1 214 (dk_at dksX0_lengthOf_2 7 rfl rfl)
theorem dX0_lengthOf_38 : decode cX0_lengthOf 38 = .ok (.arraylength, 1) := dk_190 (dk_at dksX0_lengthOf_2 10 rfl rfl)
theorem dX0_lengthOf_39 : decode cX0_lengthOf 39 = .ok (.ireturn, 1) := dk_172 (dk_at dksX0_lengthOf_2 11 rfl rfl)
theorem dX0_lengthOf_40 : decode cX0_lengthOf 40 = .ok (.aload_n 0, 1) := dk_42 (dk_at dksX0_lengthOf_2 12 rfl rfl)
theorem dX0_lengthOf_41 : decode cX0_lengthOf 41 = .ok (.checkcast 472, 3) := dk_192 1 216 (dk_at dksX0_lengthOf_2 13 rfl rfl)
theorem dX0_lengthOf_44 : decode cX0_lengthOf 44 = .ok (.arraylength, 1) := dk_190 (dk_at dksX0_lengthOf_2 16 rfl rfl)
theorem dX0_lengthOf_45 : decode cX0_lengthOf 45 = .ok (.ireturn, 1) := dk_172 (dk_at dksX0_lengthOf_2 17 rfl rfl)
abbrev cX0_item : ByteArray := prog_1_method_77_code
def yX0_item : MethodName := ⟨RX0, "item", "(Ljava/lang/Object;II)I"⟩
def dkwX0_item_4 : List UInt8 := [46, 172]
abbrev dktX0_item_4 : List UInt8 := dkwX0_item_4 ++ []
def dkwX0_item_3 : List UInt8 := [184, 1, 211, 42, 192, 1, 214, 28, 53, 172, 28, 42, 192, 1, 216, 190, 184, 1, 211, 42, 192, 1, 216, 28]
abbrev dktX0_item_3 : List UInt8 := dkwX0_item_3 ++ dktX0_item_4
def dkwX0_item_2 : List UInt8 := [28, 42, 192, 1, 210, 190, 184, 1, 211, 42, 192, 1, 210, 28, 51, 172, 28, 42, 192, 1, 214, 190]
abbrev dktX0_item_2 : List UInt8 := dkwX0_item_2 ++ dktX0_item_3
def dkwX0_item_1 : List UInt8 := [171, 0, 0, 0, 0, 0, 59, 0, 0, 0, 2, 0, 0, 0, 0, 0, 0, 0, 27, 0, 0, 0, 1, 0, 0, 0, 43]
abbrev dktX0_item_1 : List UInt8 := dkwX0_item_1 ++ dktX0_item_2
def dkwX0_item_0 : List UInt8 := [27]
abbrev dktX0_item_0 : List UInt8 := dkwX0_item_0 ++ dktX0_item_1
theorem dksX0_item_0 : cX0_item.data.toList.drop 0 = dktX0_item_0 := by decide +kernel
theorem dksX0_item_1 : cX0_item.data.toList.drop 1 = dktX0_item_1 := dk_seg dksX0_item_0 1 rfl rfl
theorem dksX0_item_2 : cX0_item.data.toList.drop 28 = dktX0_item_2 := dk_seg dksX0_item_1 27 rfl rfl
theorem dksX0_item_3 : cX0_item.data.toList.drop 50 = dktX0_item_3 := dk_seg dksX0_item_2 22 rfl rfl
theorem dksX0_item_4 : cX0_item.data.toList.drop 74 = dktX0_item_4 := dk_seg dksX0_item_3 24 rfl rfl
theorem dX0_item_0 : decode cX0_item 0 = .ok (.iload_n 1, 1) := dk_27 (dk_at dksX0_item_0 0 rfl rfl)
theorem dX0_item_1 : decode cX0_item 1 = .ok (.lookupswitch 59 #[(0, 27), (1, 43)], 27) := by decide +kernel
theorem dX0_item_28 : decode cX0_item 28 = .ok (.iload_n 2, 1) := dk_28 (dk_at dksX0_item_2 0 rfl rfl)
theorem dX0_item_29 : decode cX0_item 29 = .ok (.aload_n 0, 1) := dk_42 (dk_at dksX0_item_2 1 rfl rfl)
theorem dX0_item_30 : decode cX0_item 30 = .ok (.checkcast 466, 3) := dk_192 1 210 (dk_at dksX0_item_2 2 rfl rfl)
theorem dX0_item_33 : decode cX0_item 33 = .ok (.arraylength, 1) := dk_190 (dk_at dksX0_item_2 5 rfl rfl)
theorem dX0_item_34 : decode cX0_item 34 = .ok (.invokestatic 467, 3) := dk_184 1 211 (dk_at dksX0_item_2 6 rfl rfl)
theorem dX0_item_37 : decode cX0_item 37 = .ok (.aload_n 0, 1) := dk_42 (dk_at dksX0_item_2 9 rfl rfl)
theorem dX0_item_38 : decode cX0_item 38 = .ok (.checkcast 466, 3) := dk_192 1 210 (dk_at dksX0_item_2 10 rfl rfl)
theorem dX0_item_41 : decode cX0_item 41 = .ok (.iload_n 2, 1) := dk_28 (dk_at dksX0_item_2 13 rfl rfl)
theorem dX0_item_42 : decode cX0_item 42 = .ok (.baload, 1) := dk_51 (dk_at dksX0_item_2 14 rfl rfl)
theorem dX0_item_43 : decode cX0_item 43 = .ok (.ireturn, 1) := dk_172 (dk_at dksX0_item_2 15 rfl rfl)
theorem dX0_item_44 : decode cX0_item 44 = .ok (.iload_n 2, 1) := dk_28 (dk_at dksX0_item_2 16 rfl rfl)
theorem dX0_item_45 : decode cX0_item 45 = .ok (.aload_n 0, 1) := dk_42 (dk_at dksX0_item_2 17 rfl rfl)
theorem dX0_item_46 : decode cX0_item 46 = .ok (.checkcast 470, 3) := dk_192 1 214 (dk_at dksX0_item_2 18 rfl rfl)
theorem dX0_item_49 : decode cX0_item 49 = .ok (.arraylength, 1) := dk_190 (dk_at dksX0_item_2 21 rfl rfl)
theorem dX0_item_50 : decode cX0_item 50 = .ok (.invokestatic 467, 3) := dk_184 1 211 (dk_at dksX0_item_3 0 rfl rfl)
theorem dX0_item_53 : decode cX0_item 53 = .ok (.aload_n 0, 1) := dk_42 (dk_at dksX0_item_3 3 rfl rfl)
theorem dX0_item_54 : decode cX0_item 54 = .ok (.checkcast 470, 3) := dk_192 1 214 (dk_at dksX0_item_3 4 rfl rfl)
theorem dX0_item_57 : decode cX0_item 57 = .ok (.iload_n 2, 1) := dk_28 (dk_at dksX0_item_3 7 rfl rfl)
theorem dX0_item_58 : decode cX0_item 58 = .ok (.saload, 1) := dk_53 (dk_at dksX0_item_3 8 rfl rfl)
theorem dX0_item_59 : decode cX0_item 59 = .ok (.ireturn, 1) := dk_172 (dk_at dksX0_item_3 9 rfl rfl)
theorem dX0_item_60 : decode cX0_item 60 = .ok (.iload_n 2, 1) := dk_28 (dk_at dksX0_item_3 10 rfl rfl)
theorem dX0_item_61 : decode cX0_item 61 = .ok (.aload_n 0, 1) := dk_42 (dk_at dksX0_item_3 11 rfl rfl)
theorem dX0_item_62 : decode cX0_item 62 = .ok (.checkcast 472, 3) := dk_192 1 216 (dk_at dksX0_item_3 12 rfl rfl)
theorem dX0_item_65 : decode cX0_item 65 = .ok (.arraylength, 1) := dk_190 (dk_at dksX0_item_3 15 rfl rfl)
theorem dX0_item_66 : decode cX0_item 66 = .ok (.invokestatic 467, 3) := dk_184 1 211 (dk_at dksX0_item_3 16 rfl rfl)
theorem dX0_item_69 : decode cX0_item 69 = .ok (.aload_n 0, 1) := dk_42 (dk_at dksX0_item_3 19 rfl rfl)
theorem dX0_item_70 : decode cX0_item 70 = .ok (.checkcast 472, 3) := dk_192 1 216 (dk_at dksX0_item_3 20 rfl rfl)
theorem dX0_item_73 : decode cX0_item 73 = .ok (.iload_n 2, 1) := dk_28 (dk_at dksX0_item_3 23 rfl rfl)
theorem dX0_item_74 : decode cX0_item 74 = .ok (.iaload, 1) := dk_46 (dk_at dksX0_item_4 0 rfl rfl)
theorem dX0_item_75 : decode cX0_item 75 = .ok (.ireturn, 1) := dk_172 (dk_at dksX0_item_4 1 rfl rfl)
abbrev cX0_asksPlace : ByteArray := prog_1_method_79_code
def yX0_asksPlace : MethodName := ⟨RX0, "asksPlace", "(II)V"⟩
def dkwX0_asksPlace_0 : List UInt8 := [26, 155, 0, 8, 26, 27, 161, 0, 11, 187, 1, 222, 89, 183, 1, 224, 191, 177]
abbrev dktX0_asksPlace_0 : List UInt8 := dkwX0_asksPlace_0 ++ []
theorem dksX0_asksPlace_0 : cX0_asksPlace.data.toList.drop 0 = dktX0_asksPlace_0 := by decide +kernel
theorem dX0_asksPlace_0 : decode cX0_asksPlace 0 = .ok (.iload_n 0, 1) := dk_26 (dk_at dksX0_asksPlace_0 0 rfl rfl)
theorem dX0_asksPlace_1 : decode cX0_asksPlace 1 = .ok (.ifCond .lt 8, 3) := dk_155 0 8 (dk_at dksX0_asksPlace_0 1 rfl rfl)
theorem dX0_asksPlace_4 : decode cX0_asksPlace 4 = .ok (.iload_n 0, 1) := dk_26 (dk_at dksX0_asksPlace_0 4 rfl rfl)
theorem dX0_asksPlace_5 : decode cX0_asksPlace 5 = .ok (.iload_n 1, 1) := dk_27 (dk_at dksX0_asksPlace_0 5 rfl rfl)
theorem dX0_asksPlace_6 : decode cX0_asksPlace 6 = .ok (.if_icmp .lt 11, 3) := dk_161 0 11 (dk_at dksX0_asksPlace_0 6 rfl rfl)
theorem dX0_asksPlace_9 : decode cX0_asksPlace 9 = .ok (.new 478, 3) := dk_187 1 222 (dk_at dksX0_asksPlace_0 9 rfl rfl)
theorem dX0_asksPlace_12 : decode cX0_asksPlace 12 = .ok (.dup, 1) := dk_89 (dk_at dksX0_asksPlace_0 12 rfl rfl)
theorem dX0_asksPlace_13 : decode cX0_asksPlace 13 = .ok (.invokespecial 480, 3) := dk_183 1 224 (dk_at dksX0_asksPlace_0 13 rfl rfl)
theorem dX0_asksPlace_16 : decode cX0_asksPlace 16 = .ok (.athrow, 1) := dk_191 (dk_at dksX0_asksPlace_0 16 rfl rfl)
theorem dX0_asksPlace_17 : decode cX0_asksPlace 17 = .ok (.return_, 1) := dk_177 (dk_at dksX0_asksPlace_0 17 rfl rfl)
abbrev cX0_where : ByteArray := prog_1_method_65_code
def yX0_where : MethodName := ⟨RX0, "where", "(II)I"⟩
def dkwX0_where_2 : List UInt8 := [153, 0, 10, 4, 21, 4, 120, 167, 0, 4, 3, 128, 62, 132, 4, 1, 167, 255, 220, 29, 172]
abbrev dktX0_where_2 : List UInt8 := dkwX0_where_2 ++ []
def dkwX0_where_1 : List UInt8 := [62, 3, 54, 4, 21, 4, 16, 8, 162, 0, 35, 29, 42, 27, 16, 8, 28, 104, 21, 4, 96, 182, 1, 181]
abbrev dktX0_where_1 : List UInt8 := dkwX0_where_1 ++ dktX0_where_2
def dkwX0_where_0 : List UInt8 := [42, 27, 182, 0, 72, 153, 0, 15, 28, 133, 9, 20, 0, 40, 184, 0, 5, 154, 0, 6, 16, 254, 172, 3]
abbrev dktX0_where_0 : List UInt8 := dkwX0_where_0 ++ dktX0_where_1
theorem dksX0_where_0 : cX0_where.data.toList.drop 0 = dktX0_where_0 := by decide +kernel
theorem dksX0_where_1 : cX0_where.data.toList.drop 24 = dktX0_where_1 := dk_seg dksX0_where_0 24 rfl rfl
theorem dksX0_where_2 : cX0_where.data.toList.drop 48 = dktX0_where_2 := dk_seg dksX0_where_1 24 rfl rfl
theorem dX0_where_0 : decode cX0_where 0 = .ok (.aload_n 0, 1) := dk_42 (dk_at dksX0_where_0 0 rfl rfl)
theorem dX0_where_1 : decode cX0_where 1 = .ok (.iload_n 1, 1) := dk_27 (dk_at dksX0_where_0 1 rfl rfl)
theorem dX0_where_2 : decode cX0_where 2 = .ok (.invokevirtual 72, 3) := dk_182 0 72 (dk_at dksX0_where_0 2 rfl rfl)
theorem dX0_where_5 : decode cX0_where 5 = .ok (.ifCond .eq 15, 3) := dk_153 0 15 (dk_at dksX0_where_0 5 rfl rfl)
theorem dX0_where_8 : decode cX0_where 8 = .ok (.iload_n 2, 1) := dk_28 (dk_at dksX0_where_0 8 rfl rfl)
theorem dX0_where_9 : decode cX0_where 9 = .ok (.i2l, 1) := dk_133 (dk_at dksX0_where_0 9 rfl rfl)
theorem dX0_where_10 : decode cX0_where 10 = .ok (.lconst 0, 1) := dk_9 (dk_at dksX0_where_0 10 rfl rfl)
theorem dX0_where_11 : decode cX0_where 11 = .ok (.ldc2_w 40, 3) := dk_20 0 40 (dk_at dksX0_where_0 11 rfl rfl)
theorem dX0_where_14 : decode cX0_where 14 = .ok (.invokestatic 5, 3) := dk_184 0 5 (dk_at dksX0_where_0 14 rfl rfl)
theorem dX0_where_17 : decode cX0_where 17 = .ok (.ifCond .ne 6, 3) := dk_154 0 6 (dk_at dksX0_where_0 17 rfl rfl)
theorem dX0_where_20 : decode cX0_where 20 = .ok (.bipush (-2), 2) := dk_16 254 (dk_at dksX0_where_0 20 rfl rfl)
theorem dX0_where_22 : decode cX0_where 22 = .ok (.ireturn, 1) := dk_172 (dk_at dksX0_where_0 22 rfl rfl)
theorem dX0_where_23 : decode cX0_where 23 = .ok (.iconst 0, 1) := dk_3 (dk_at dksX0_where_0 23 rfl rfl)
theorem dX0_where_24 : decode cX0_where 24 = .ok (.istore_n 3, 1) := dk_62 (dk_at dksX0_where_1 0 rfl rfl)
theorem dX0_where_25 : decode cX0_where 25 = .ok (.iconst 0, 1) := dk_3 (dk_at dksX0_where_1 1 rfl rfl)
theorem dX0_where_26 : decode cX0_where 26 = .ok (.istore 4, 2) := dk_54 4 (dk_at dksX0_where_1 2 rfl rfl)
theorem dX0_where_28 : decode cX0_where 28 = .ok (.iload 4, 2) := dk_21 4 (dk_at dksX0_where_1 4 rfl rfl)
theorem dX0_where_30 : decode cX0_where 30 = .ok (.bipush 8, 2) := dk_16 8 (dk_at dksX0_where_1 6 rfl rfl)
theorem dX0_where_32 : decode cX0_where 32 = .ok (.if_icmp .ge 35, 3) := dk_162 0 35 (dk_at dksX0_where_1 8 rfl rfl)
theorem dX0_where_35 : decode cX0_where 35 = .ok (.iload_n 3, 1) := dk_29 (dk_at dksX0_where_1 11 rfl rfl)
theorem dX0_where_36 : decode cX0_where 36 = .ok (.aload_n 0, 1) := dk_42 (dk_at dksX0_where_1 12 rfl rfl)
theorem dX0_where_37 : decode cX0_where 37 = .ok (.iload_n 1, 1) := dk_27 (dk_at dksX0_where_1 13 rfl rfl)
theorem dX0_where_38 : decode cX0_where 38 = .ok (.bipush 8, 2) := dk_16 8 (dk_at dksX0_where_1 14 rfl rfl)
theorem dX0_where_40 : decode cX0_where 40 = .ok (.iload_n 2, 1) := dk_28 (dk_at dksX0_where_1 16 rfl rfl)
theorem dX0_where_41 : decode cX0_where 41 = .ok (.imul, 1) := dk_104 (dk_at dksX0_where_1 17 rfl rfl)
theorem dX0_where_42 : decode cX0_where 42 = .ok (.iload 4, 2) := dk_21 4 (dk_at dksX0_where_1 18 rfl rfl)
theorem dX0_where_44 : decode cX0_where 44 = .ok (.iadd, 1) := dk_96 (dk_at dksX0_where_1 20 rfl rfl)
theorem dX0_where_45 : decode cX0_where 45 = .ok (.invokevirtual 437, 3) := dk_182 1 181 (dk_at dksX0_where_1 21 rfl rfl)
theorem dX0_where_48 : decode cX0_where 48 = .ok (.ifCond .eq 10, 3) := dk_153 0 10 (dk_at dksX0_where_2 0 rfl rfl)
theorem dX0_where_51 : decode cX0_where 51 = .ok (.iconst 1, 1) := dk_4 (dk_at dksX0_where_2 3 rfl rfl)
theorem dX0_where_52 : decode cX0_where 52 = .ok (.iload 4, 2) := dk_21 4 (dk_at dksX0_where_2 4 rfl rfl)
theorem dX0_where_54 : decode cX0_where 54 = .ok (.ishl, 1) := dk_120 (dk_at dksX0_where_2 6 rfl rfl)
theorem dX0_where_55 : decode cX0_where 55 = .ok (.goto 4, 3) := dk_167 0 4 (dk_at dksX0_where_2 7 rfl rfl)
theorem dX0_where_58 : decode cX0_where 58 = .ok (.iconst 0, 1) := dk_3 (dk_at dksX0_where_2 10 rfl rfl)
theorem dX0_where_59 : decode cX0_where 59 = .ok (.ior, 1) := dk_128 (dk_at dksX0_where_2 11 rfl rfl)
theorem dX0_where_60 : decode cX0_where 60 = .ok (.istore_n 3, 1) := dk_62 (dk_at dksX0_where_2 12 rfl rfl)
theorem dX0_where_61 : decode cX0_where 61 = .ok (.iinc 4 1, 3) := dk_132 4 1 (dk_at dksX0_where_2 13 rfl rfl)
theorem dX0_where_64 : decode cX0_where 64 = .ok (.goto (-36), 3) := dk_167 255 220 (dk_at dksX0_where_2 16 rfl rfl)
theorem dX0_where_67 : decode cX0_where 67 = .ok (.iload_n 3, 1) := dk_29 (dk_at dksX0_where_2 19 rfl rfl)
theorem dX0_where_68 : decode cX0_where 68 = .ok (.ireturn, 1) := dk_172 (dk_at dksX0_where_2 20 rfl rfl)
abbrev cX0_wouldComeFrom : ByteArray := prog_1_method_64_code
def yX0_wouldComeFrom : MethodName := ⟨RX0, "wouldComeFrom", "(II)Z"⟩
def dkwX0_wouldComeFrom_1 : List UInt8 := [180, 0, 56, 27, 29, 79, 21, 4, 172, 58, 5, 42, 180, 0, 56, 27, 29, 79, 25, 5, 191]
abbrev dktX0_wouldComeFrom_1 : List UInt8 := dkwX0_wouldComeFrom_1 ++ []
def dkwX0_wouldComeFrom_0 : List UInt8 := [42, 180, 0, 56, 27, 46, 62, 42, 180, 0, 56, 27, 28, 79, 42, 27, 182, 0, 113, 54, 4, 42]
abbrev dktX0_wouldComeFrom_0 : List UInt8 := dkwX0_wouldComeFrom_0 ++ dktX0_wouldComeFrom_1
theorem dksX0_wouldComeFrom_0 : cX0_wouldComeFrom.data.toList.drop 0 = dktX0_wouldComeFrom_0 := by decide +kernel
theorem dksX0_wouldComeFrom_1 : cX0_wouldComeFrom.data.toList.drop 22 = dktX0_wouldComeFrom_1 := dk_seg dksX0_wouldComeFrom_0 22 rfl rfl
theorem dX0_wouldComeFrom_0 : decode cX0_wouldComeFrom 0 = .ok (.aload_n 0, 1) := dk_42 (dk_at dksX0_wouldComeFrom_0 0 rfl rfl)
theorem dX0_wouldComeFrom_1 : decode cX0_wouldComeFrom 1 = .ok (.getfield 56, 3) := dk_180 0 56 (dk_at dksX0_wouldComeFrom_0 1 rfl rfl)
theorem dX0_wouldComeFrom_4 : decode cX0_wouldComeFrom 4 = .ok (.iload_n 1, 1) := dk_27 (dk_at dksX0_wouldComeFrom_0 4 rfl rfl)
theorem dX0_wouldComeFrom_5 : decode cX0_wouldComeFrom 5 = .ok (.iaload, 1) := dk_46 (dk_at dksX0_wouldComeFrom_0 5 rfl rfl)
theorem dX0_wouldComeFrom_6 : decode cX0_wouldComeFrom 6 = .ok (.istore_n 3, 1) := dk_62 (dk_at dksX0_wouldComeFrom_0 6 rfl rfl)
theorem dX0_wouldComeFrom_7 : decode cX0_wouldComeFrom 7 = .ok (.aload_n 0, 1) := dk_42 (dk_at dksX0_wouldComeFrom_0 7 rfl rfl)
theorem dX0_wouldComeFrom_8 : decode cX0_wouldComeFrom 8 = .ok (.getfield 56, 3) := dk_180 0 56 (dk_at dksX0_wouldComeFrom_0 8 rfl rfl)
theorem dX0_wouldComeFrom_11 : decode cX0_wouldComeFrom 11 = .ok (.iload_n 1, 1) := dk_27 (dk_at dksX0_wouldComeFrom_0 11 rfl rfl)
theorem dX0_wouldComeFrom_12 : decode cX0_wouldComeFrom 12 = .ok (.iload_n 2, 1) := dk_28 (dk_at dksX0_wouldComeFrom_0 12 rfl rfl)
theorem dX0_wouldComeFrom_13 : decode cX0_wouldComeFrom 13 = .ok (.iastore, 1) := dk_79 (dk_at dksX0_wouldComeFrom_0 13 rfl rfl)
theorem dX0_wouldComeFrom_14 : decode cX0_wouldComeFrom 14 = .ok (.aload_n 0, 1) := dk_42 (dk_at dksX0_wouldComeFrom_0 14 rfl rfl)
theorem dX0_wouldComeFrom_15 : decode cX0_wouldComeFrom 15 = .ok (.iload_n 1, 1) := dk_27 (dk_at dksX0_wouldComeFrom_0 15 rfl rfl)
theorem dX0_wouldComeFrom_16 : decode cX0_wouldComeFrom 16 = .ok (.invokevirtual 113, 3) := dk_182 0 113 (dk_at dksX0_wouldComeFrom_0 16 rfl rfl)
theorem dX0_wouldComeFrom_19 : decode cX0_wouldComeFrom 19 = .ok (.istore 4, 2) := dk_54 4 (dk_at dksX0_wouldComeFrom_0 19 rfl rfl)
theorem dX0_wouldComeFrom_21 : decode cX0_wouldComeFrom 21 = .ok (.aload_n 0, 1) := dk_42 (dk_at dksX0_wouldComeFrom_0 21 rfl rfl)
theorem dX0_wouldComeFrom_22 : decode cX0_wouldComeFrom 22 = .ok (.getfield 56, 3) := dk_180 0 56 (dk_at dksX0_wouldComeFrom_1 0 rfl rfl)
theorem dX0_wouldComeFrom_25 : decode cX0_wouldComeFrom 25 = .ok (.iload_n 1, 1) := dk_27 (dk_at dksX0_wouldComeFrom_1 3 rfl rfl)
theorem dX0_wouldComeFrom_26 : decode cX0_wouldComeFrom 26 = .ok (.iload_n 3, 1) := dk_29 (dk_at dksX0_wouldComeFrom_1 4 rfl rfl)
theorem dX0_wouldComeFrom_27 : decode cX0_wouldComeFrom 27 = .ok (.iastore, 1) := dk_79 (dk_at dksX0_wouldComeFrom_1 5 rfl rfl)
theorem dX0_wouldComeFrom_28 : decode cX0_wouldComeFrom 28 = .ok (.iload 4, 2) := dk_21 4 (dk_at dksX0_wouldComeFrom_1 6 rfl rfl)
theorem dX0_wouldComeFrom_30 : decode cX0_wouldComeFrom 30 = .ok (.ireturn, 1) := dk_172 (dk_at dksX0_wouldComeFrom_1 8 rfl rfl)
theorem dX0_wouldComeFrom_31 : decode cX0_wouldComeFrom 31 = .ok (.astore 5, 2) := dk_58 5 (dk_at dksX0_wouldComeFrom_1 9 rfl rfl)
theorem dX0_wouldComeFrom_33 : decode cX0_wouldComeFrom 33 = .ok (.aload_n 0, 1) := dk_42 (dk_at dksX0_wouldComeFrom_1 11 rfl rfl)
theorem dX0_wouldComeFrom_34 : decode cX0_wouldComeFrom 34 = .ok (.getfield 56, 3) := dk_180 0 56 (dk_at dksX0_wouldComeFrom_1 12 rfl rfl)
theorem dX0_wouldComeFrom_37 : decode cX0_wouldComeFrom 37 = .ok (.iload_n 1, 1) := dk_27 (dk_at dksX0_wouldComeFrom_1 15 rfl rfl)
theorem dX0_wouldComeFrom_38 : decode cX0_wouldComeFrom 38 = .ok (.iload_n 3, 1) := dk_29 (dk_at dksX0_wouldComeFrom_1 16 rfl rfl)
theorem dX0_wouldComeFrom_39 : decode cX0_wouldComeFrom 39 = .ok (.iastore, 1) := dk_79 (dk_at dksX0_wouldComeFrom_1 17 rfl rfl)
theorem dX0_wouldComeFrom_40 : decode cX0_wouldComeFrom 40 = .ok (.aload 5, 2) := dk_25 5 (dk_at dksX0_wouldComeFrom_1 18 rfl rfl)
theorem dX0_wouldComeFrom_42 : decode cX0_wouldComeFrom 42 = .ok (.athrow, 1) := dk_191 (dk_at dksX0_wouldComeFrom_1 20 rfl rfl)
abbrev cX0_drawn : ByteArray := prog_1_method_66_code
def yX0_drawn : MethodName := ⟨RX0, "drawn", "(I)I"⟩
def dkwX0_drawn_2 : List UInt8 := [180, 0, 98, 4, 29, 79, 21, 4, 172, 58, 5, 42, 180, 0, 98, 4, 29, 79, 25, 5, 191]
abbrev dktX0_drawn_2 : List UInt8 := dkwX0_drawn_2 ++ []
def dkwX0_drawn_1 : List UInt8 := [16, 10, 124, 16, 10, 112, 79, 42, 182, 1, 145, 42, 182, 1, 156, 2, 130, 126, 184, 1, 140, 54, 4, 42]
abbrev dktX0_drawn_1 : List UInt8 := dkwX0_drawn_1 ++ dktX0_drawn_2
def dkwX0_drawn_0 : List UInt8 := [27, 19, 1, 185, 104, 17, 48, 57, 96, 61, 42, 180, 0, 98, 4, 46, 62, 42, 180, 0, 98, 4, 28]
abbrev dktX0_drawn_0 : List UInt8 := dkwX0_drawn_0 ++ dktX0_drawn_1
theorem dksX0_drawn_0 : cX0_drawn.data.toList.drop 0 = dktX0_drawn_0 := by decide +kernel
theorem dksX0_drawn_1 : cX0_drawn.data.toList.drop 23 = dktX0_drawn_1 := dk_seg dksX0_drawn_0 23 rfl rfl
theorem dksX0_drawn_2 : cX0_drawn.data.toList.drop 47 = dktX0_drawn_2 := dk_seg dksX0_drawn_1 24 rfl rfl
theorem dX0_drawn_0 : decode cX0_drawn 0 = .ok (.iload_n 1, 1) := dk_27 (dk_at dksX0_drawn_0 0 rfl rfl)
theorem dX0_drawn_1 : decode cX0_drawn 1 = .ok (.ldc_w 441, 3) := dk_19 1 185 (dk_at dksX0_drawn_0 1 rfl rfl)
theorem dX0_drawn_4 : decode cX0_drawn 4 = .ok (.imul, 1) := dk_104 (dk_at dksX0_drawn_0 4 rfl rfl)
theorem dX0_drawn_5 : decode cX0_drawn 5 = .ok (.sipush 12345, 3) := dk_17 48 57 (dk_at dksX0_drawn_0 5 rfl rfl)
theorem dX0_drawn_8 : decode cX0_drawn 8 = .ok (.iadd, 1) := dk_96 (dk_at dksX0_drawn_0 8 rfl rfl)
theorem dX0_drawn_9 : decode cX0_drawn 9 = .ok (.istore_n 2, 1) := dk_61 (dk_at dksX0_drawn_0 9 rfl rfl)
theorem dX0_drawn_10 : decode cX0_drawn 10 = .ok (.aload_n 0, 1) := dk_42 (dk_at dksX0_drawn_0 10 rfl rfl)
theorem dX0_drawn_11 : decode cX0_drawn 11 = .ok (.getfield 98, 3) := dk_180 0 98 (dk_at dksX0_drawn_0 11 rfl rfl)
theorem dX0_drawn_14 : decode cX0_drawn 14 = .ok (.iconst 1, 1) := dk_4 (dk_at dksX0_drawn_0 14 rfl rfl)
theorem dX0_drawn_15 : decode cX0_drawn 15 = .ok (.iaload, 1) := dk_46 (dk_at dksX0_drawn_0 15 rfl rfl)
theorem dX0_drawn_16 : decode cX0_drawn 16 = .ok (.istore_n 3, 1) := dk_62 (dk_at dksX0_drawn_0 16 rfl rfl)
theorem dX0_drawn_17 : decode cX0_drawn 17 = .ok (.aload_n 0, 1) := dk_42 (dk_at dksX0_drawn_0 17 rfl rfl)
theorem dX0_drawn_18 : decode cX0_drawn 18 = .ok (.getfield 98, 3) := dk_180 0 98 (dk_at dksX0_drawn_0 18 rfl rfl)
theorem dX0_drawn_21 : decode cX0_drawn 21 = .ok (.iconst 1, 1) := dk_4 (dk_at dksX0_drawn_0 21 rfl rfl)
theorem dX0_drawn_22 : decode cX0_drawn 22 = .ok (.iload_n 2, 1) := dk_28 (dk_at dksX0_drawn_0 22 rfl rfl)
theorem dX0_drawn_23 : decode cX0_drawn 23 = .ok (.bipush 10, 2) := dk_16 10 (dk_at dksX0_drawn_1 0 rfl rfl)
theorem dX0_drawn_25 : decode cX0_drawn 25 = .ok (.iushr, 1) := dk_124 (dk_at dksX0_drawn_1 2 rfl rfl)
theorem dX0_drawn_26 : decode cX0_drawn 26 = .ok (.bipush 10, 2) := dk_16 10 (dk_at dksX0_drawn_1 3 rfl rfl)
theorem dX0_drawn_28 : decode cX0_drawn 28 = .ok (.irem, 1) := dk_112 (dk_at dksX0_drawn_1 5 rfl rfl)
theorem dX0_drawn_29 : decode cX0_drawn 29 = .ok (.iastore, 1) := dk_79 (dk_at dksX0_drawn_1 6 rfl rfl)
theorem dX0_drawn_30 : decode cX0_drawn 30 = .ok (.aload_n 0, 1) := dk_42 (dk_at dksX0_drawn_1 7 rfl rfl)
theorem dX0_drawn_31 : decode cX0_drawn 31 = .ok (.invokevirtual 401, 3) := dk_182 1 145 (dk_at dksX0_drawn_1 8 rfl rfl)
theorem dX0_drawn_34 : decode cX0_drawn 34 = .ok (.aload_n 0, 1) := dk_42 (dk_at dksX0_drawn_1 11 rfl rfl)
theorem dX0_drawn_35 : decode cX0_drawn 35 = .ok (.invokevirtual 412, 3) := dk_182 1 156 (dk_at dksX0_drawn_1 12 rfl rfl)
theorem dX0_drawn_38 : decode cX0_drawn 38 = .ok (.iconst (-1), 1) := dk_2 (dk_at dksX0_drawn_1 15 rfl rfl)
theorem dX0_drawn_39 : decode cX0_drawn 39 = .ok (.ixor, 1) := dk_130 (dk_at dksX0_drawn_1 16 rfl rfl)
theorem dX0_drawn_40 : decode cX0_drawn 40 = .ok (.iand, 1) := dk_126 (dk_at dksX0_drawn_1 17 rfl rfl)
theorem dX0_drawn_41 : decode cX0_drawn 41 = .ok (.invokestatic 396, 3) := dk_184 1 140 (dk_at dksX0_drawn_1 18 rfl rfl)
theorem dX0_drawn_44 : decode cX0_drawn 44 = .ok (.istore 4, 2) := dk_54 4 (dk_at dksX0_drawn_1 21 rfl rfl)
theorem dX0_drawn_46 : decode cX0_drawn 46 = .ok (.aload_n 0, 1) := dk_42 (dk_at dksX0_drawn_1 23 rfl rfl)
theorem dX0_drawn_47 : decode cX0_drawn 47 = .ok (.getfield 98, 3) := dk_180 0 98 (dk_at dksX0_drawn_2 0 rfl rfl)
theorem dX0_drawn_50 : decode cX0_drawn 50 = .ok (.iconst 1, 1) := dk_4 (dk_at dksX0_drawn_2 3 rfl rfl)
theorem dX0_drawn_51 : decode cX0_drawn 51 = .ok (.iload_n 3, 1) := dk_29 (dk_at dksX0_drawn_2 4 rfl rfl)
theorem dX0_drawn_52 : decode cX0_drawn 52 = .ok (.iastore, 1) := dk_79 (dk_at dksX0_drawn_2 5 rfl rfl)
theorem dX0_drawn_53 : decode cX0_drawn 53 = .ok (.iload 4, 2) := dk_21 4 (dk_at dksX0_drawn_2 6 rfl rfl)
theorem dX0_drawn_55 : decode cX0_drawn 55 = .ok (.ireturn, 1) := dk_172 (dk_at dksX0_drawn_2 8 rfl rfl)
theorem dX0_drawn_56 : decode cX0_drawn 56 = .ok (.astore 5, 2) := dk_58 5 (dk_at dksX0_drawn_2 9 rfl rfl)
theorem dX0_drawn_58 : decode cX0_drawn 58 = .ok (.aload_n 0, 1) := dk_42 (dk_at dksX0_drawn_2 11 rfl rfl)
theorem dX0_drawn_59 : decode cX0_drawn 59 = .ok (.getfield 98, 3) := dk_180 0 98 (dk_at dksX0_drawn_2 12 rfl rfl)
theorem dX0_drawn_62 : decode cX0_drawn 62 = .ok (.iconst 1, 1) := dk_4 (dk_at dksX0_drawn_2 15 rfl rfl)
theorem dX0_drawn_63 : decode cX0_drawn 63 = .ok (.iload_n 3, 1) := dk_29 (dk_at dksX0_drawn_2 16 rfl rfl)
theorem dX0_drawn_64 : decode cX0_drawn 64 = .ok (.iastore, 1) := dk_79 (dk_at dksX0_drawn_2 17 rfl rfl)
theorem dX0_drawn_65 : decode cX0_drawn 65 = .ok (.aload 5, 2) := dk_25 5 (dk_at dksX0_drawn_2 18 rfl rfl)
theorem dX0_drawn_67 : decode cX0_drawn 67 = .ok (.athrow, 1) := dk_191 (dk_at dksX0_drawn_2 20 rfl rfl)
abbrev cX0_chance : ByteArray := prog_1_method_67_code
def yX0_chance : MethodName := ⟨RX0, "chance", "(III)J"⟩
def dkwX0_chance_5 : List UInt8 := [167, 0, 5, 28, 133, 22, 7, 109, 173]
abbrev dktX0_chance_5 : List UInt8 := dkwX0_chance_5 ++ []
def dkwX0_chance_4 : List UInt8 := [22, 7, 22, 9, 113, 55, 11, 22, 9, 55, 7, 22, 11, 55, 9, 167, 255, 234, 29, 154, 0, 8, 22, 5]
abbrev dktX0_chance_4 : List UInt8 := dkwX0_chance_4 ++ dktX0_chance_5
def dkwX0_chance_3 : List UInt8 := [55, 5, 132, 7, 1, 167, 255, 224, 22, 5, 55, 7, 28, 133, 55, 9, 22, 9, 9, 148, 153, 0, 21]
abbrev dktX0_chance_3 : List UInt8 := dkwX0_chance_3 ++ dktX0_chance_4
def dkwX0_chance_2 : List UInt8 := [162, 0, 32, 22, 5, 42, 27, 21, 7, 96, 182, 1, 190, 21, 4, 160, 0, 7, 10, 167, 0, 4, 9, 97]
abbrev dktX0_chance_2 : List UInt8 := dkwX0_chance_2 ++ dktX0_chance_3
def dkwX0_chance_1 : List UInt8 := [20, 1, 188, 173, 42, 182, 1, 145, 184, 1, 140, 54, 4, 9, 55, 5, 3, 54, 7, 21, 7, 28]
abbrev dktX0_chance_1 : List UInt8 := dkwX0_chance_1 ++ dktX0_chance_2
def dkwX0_chance_0 : List UInt8 := [28, 133, 10, 20, 1, 186, 184, 0, 5, 153, 0, 13, 29, 133, 9, 10, 184, 0, 5, 154, 0, 7]
abbrev dktX0_chance_0 : List UInt8 := dkwX0_chance_0 ++ dktX0_chance_1
theorem dksX0_chance_0 : cX0_chance.data.toList.drop 0 = dktX0_chance_0 := by decide +kernel
theorem dksX0_chance_1 : cX0_chance.data.toList.drop 22 = dktX0_chance_1 := dk_seg dksX0_chance_0 22 rfl rfl
theorem dksX0_chance_2 : cX0_chance.data.toList.drop 44 = dktX0_chance_2 := dk_seg dksX0_chance_1 22 rfl rfl
theorem dksX0_chance_3 : cX0_chance.data.toList.drop 68 = dktX0_chance_3 := dk_seg dksX0_chance_2 24 rfl rfl
theorem dksX0_chance_4 : cX0_chance.data.toList.drop 91 = dktX0_chance_4 := dk_seg dksX0_chance_3 23 rfl rfl
theorem dksX0_chance_5 : cX0_chance.data.toList.drop 115 = dktX0_chance_5 := dk_seg dksX0_chance_4 24 rfl rfl
theorem dX0_chance_0 : decode cX0_chance 0 = .ok (.iload_n 2, 1) := dk_28 (dk_at dksX0_chance_0 0 rfl rfl)
theorem dX0_chance_1 : decode cX0_chance 1 = .ok (.i2l, 1) := dk_133 (dk_at dksX0_chance_0 1 rfl rfl)
theorem dX0_chance_2 : decode cX0_chance 2 = .ok (.lconst 1, 1) := dk_10 (dk_at dksX0_chance_0 2 rfl rfl)
theorem dX0_chance_3 : decode cX0_chance 3 = .ok (.ldc2_w 442, 3) := dk_20 1 186 (dk_at dksX0_chance_0 3 rfl rfl)
theorem dX0_chance_6 : decode cX0_chance 6 = .ok (.invokestatic 5, 3) := dk_184 0 5 (dk_at dksX0_chance_0 6 rfl rfl)
theorem dX0_chance_9 : decode cX0_chance 9 = .ok (.ifCond .eq 13, 3) := dk_153 0 13 (dk_at dksX0_chance_0 9 rfl rfl)
theorem dX0_chance_12 : decode cX0_chance 12 = .ok (.iload_n 3, 1) := dk_29 (dk_at dksX0_chance_0 12 rfl rfl)
theorem dX0_chance_13 : decode cX0_chance 13 = .ok (.i2l, 1) := dk_133 (dk_at dksX0_chance_0 13 rfl rfl)
theorem dX0_chance_14 : decode cX0_chance 14 = .ok (.lconst 0, 1) := dk_9 (dk_at dksX0_chance_0 14 rfl rfl)
theorem dX0_chance_15 : decode cX0_chance 15 = .ok (.lconst 1, 1) := dk_10 (dk_at dksX0_chance_0 15 rfl rfl)
theorem dX0_chance_16 : decode cX0_chance 16 = .ok (.invokestatic 5, 3) := dk_184 0 5 (dk_at dksX0_chance_0 16 rfl rfl)
theorem dX0_chance_19 : decode cX0_chance 19 = .ok (.ifCond .ne 7, 3) := dk_154 0 7 (dk_at dksX0_chance_0 19 rfl rfl)
theorem dX0_chance_22 : decode cX0_chance 22 = .ok (.ldc2_w 444, 3) := dk_20 1 188 (dk_at dksX0_chance_1 0 rfl rfl)
theorem dX0_chance_25 : decode cX0_chance 25 = .ok (.lreturn, 1) := dk_173 (dk_at dksX0_chance_1 3 rfl rfl)
theorem dX0_chance_26 : decode cX0_chance 26 = .ok (.aload_n 0, 1) := dk_42 (dk_at dksX0_chance_1 4 rfl rfl)
theorem dX0_chance_27 : decode cX0_chance 27 = .ok (.invokevirtual 401, 3) := dk_182 1 145 (dk_at dksX0_chance_1 5 rfl rfl)
theorem dX0_chance_30 : decode cX0_chance 30 = .ok (.invokestatic 396, 3) := dk_184 1 140 (dk_at dksX0_chance_1 8 rfl rfl)
theorem dX0_chance_33 : decode cX0_chance 33 = .ok (.istore 4, 2) := dk_54 4 (dk_at dksX0_chance_1 11 rfl rfl)
theorem dX0_chance_35 : decode cX0_chance 35 = .ok (.lconst 0, 1) := dk_9 (dk_at dksX0_chance_1 13 rfl rfl)
theorem dX0_chance_36 : decode cX0_chance 36 = .ok (.lstore 5, 2) := dk_55 5 (dk_at dksX0_chance_1 14 rfl rfl)
theorem dX0_chance_38 : decode cX0_chance 38 = .ok (.iconst 0, 1) := dk_3 (dk_at dksX0_chance_1 16 rfl rfl)
theorem dX0_chance_39 : decode cX0_chance 39 = .ok (.istore 7, 2) := dk_54 7 (dk_at dksX0_chance_1 17 rfl rfl)
theorem dX0_chance_41 : decode cX0_chance 41 = .ok (.iload 7, 2) := dk_21 7 (dk_at dksX0_chance_1 19 rfl rfl)
theorem dX0_chance_43 : decode cX0_chance 43 = .ok (.iload_n 2, 1) := dk_28 (dk_at dksX0_chance_1 21 rfl rfl)
theorem dX0_chance_44 : decode cX0_chance 44 = .ok (.if_icmp .ge 32, 3) := dk_162 0 32 (dk_at dksX0_chance_2 0 rfl rfl)
theorem dX0_chance_47 : decode cX0_chance 47 = .ok (.lload 5, 2) := dk_22 5 (dk_at dksX0_chance_2 3 rfl rfl)
theorem dX0_chance_49 : decode cX0_chance 49 = .ok (.aload_n 0, 1) := dk_42 (dk_at dksX0_chance_2 5 rfl rfl)
theorem dX0_chance_50 : decode cX0_chance 50 = .ok (.iload_n 1, 1) := dk_27 (dk_at dksX0_chance_2 6 rfl rfl)
theorem dX0_chance_51 : decode cX0_chance 51 = .ok (.iload 7, 2) := dk_21 7 (dk_at dksX0_chance_2 7 rfl rfl)
theorem dX0_chance_53 : decode cX0_chance 53 = .ok (.iadd, 1) := dk_96 (dk_at dksX0_chance_2 9 rfl rfl)
theorem dX0_chance_54 : decode cX0_chance 54 = .ok (.invokevirtual 446, 3) := dk_182 1 190 (dk_at dksX0_chance_2 10 rfl rfl)
theorem dX0_chance_57 : decode cX0_chance 57 = .ok (.iload 4, 2) := dk_21 4 (dk_at dksX0_chance_2 13 rfl rfl)
theorem dX0_chance_59 : decode cX0_chance 59 = .ok (.if_icmp .ne 7, 3) := dk_160 0 7 (dk_at dksX0_chance_2 15 rfl rfl)
theorem dX0_chance_62 : decode cX0_chance 62 = .ok (.lconst 1, 1) := dk_10 (dk_at dksX0_chance_2 18 rfl rfl)
theorem dX0_chance_63 : decode cX0_chance 63 = .ok (.goto 4, 3) := dk_167 0 4 (dk_at dksX0_chance_2 19 rfl rfl)
theorem dX0_chance_66 : decode cX0_chance 66 = .ok (.lconst 0, 1) := dk_9 (dk_at dksX0_chance_2 22 rfl rfl)
theorem dX0_chance_67 : decode cX0_chance 67 = .ok (.ladd, 1) := dk_97 (dk_at dksX0_chance_2 23 rfl rfl)
theorem dX0_chance_68 : decode cX0_chance 68 = .ok (.lstore 5, 2) := dk_55 5 (dk_at dksX0_chance_3 0 rfl rfl)
theorem dX0_chance_70 : decode cX0_chance 70 = .ok (.iinc 7 1, 3) := dk_132 7 1 (dk_at dksX0_chance_3 2 rfl rfl)
theorem dX0_chance_73 : decode cX0_chance 73 = .ok (.goto (-32), 3) := dk_167 255 224 (dk_at dksX0_chance_3 5 rfl rfl)
theorem dX0_chance_76 : decode cX0_chance 76 = .ok (.lload 5, 2) := dk_22 5 (dk_at dksX0_chance_3 8 rfl rfl)
theorem dX0_chance_78 : decode cX0_chance 78 = .ok (.lstore 7, 2) := dk_55 7 (dk_at dksX0_chance_3 10 rfl rfl)
theorem dX0_chance_80 : decode cX0_chance 80 = .ok (.iload_n 2, 1) := dk_28 (dk_at dksX0_chance_3 12 rfl rfl)
theorem dX0_chance_81 : decode cX0_chance 81 = .ok (.i2l, 1) := dk_133 (dk_at dksX0_chance_3 13 rfl rfl)
theorem dX0_chance_82 : decode cX0_chance 82 = .ok (.lstore 9, 2) := dk_55 9 (dk_at dksX0_chance_3 14 rfl rfl)
theorem dX0_chance_84 : decode cX0_chance 84 = .ok (.lload 9, 2) := dk_22 9 (dk_at dksX0_chance_3 16 rfl rfl)
theorem dX0_chance_86 : decode cX0_chance 86 = .ok (.lconst 0, 1) := dk_9 (dk_at dksX0_chance_3 18 rfl rfl)
theorem dX0_chance_87 : decode cX0_chance 87 = .ok (.lcmp, 1) := dk_148 (dk_at dksX0_chance_3 19 rfl rfl)
theorem dX0_chance_88 : decode cX0_chance 88 = .ok (.ifCond .eq 21, 3) := dk_153 0 21 (dk_at dksX0_chance_3 20 rfl rfl)
theorem dX0_chance_91 : decode cX0_chance 91 = .ok (.lload 7, 2) := dk_22 7 (dk_at dksX0_chance_4 0 rfl rfl)
theorem dX0_chance_93 : decode cX0_chance 93 = .ok (.lload 9, 2) := dk_22 9 (dk_at dksX0_chance_4 2 rfl rfl)
theorem dX0_chance_95 : decode cX0_chance 95 = .ok (.lrem, 1) := dk_113 (dk_at dksX0_chance_4 4 rfl rfl)
theorem dX0_chance_96 : decode cX0_chance 96 = .ok (.lstore 11, 2) := dk_55 11 (dk_at dksX0_chance_4 5 rfl rfl)
theorem dX0_chance_98 : decode cX0_chance 98 = .ok (.lload 9, 2) := dk_22 9 (dk_at dksX0_chance_4 7 rfl rfl)
theorem dX0_chance_100 : decode cX0_chance 100 = .ok (.lstore 7, 2) := dk_55 7 (dk_at dksX0_chance_4 9 rfl rfl)
theorem dX0_chance_102 : decode cX0_chance 102 = .ok (.lload 11, 2) := dk_22 11 (dk_at dksX0_chance_4 11 rfl rfl)
theorem dX0_chance_104 : decode cX0_chance 104 = .ok (.lstore 9, 2) := dk_55 9 (dk_at dksX0_chance_4 13 rfl rfl)
theorem dX0_chance_106 : decode cX0_chance 106 = .ok (.goto (-22), 3) := dk_167 255 234 (dk_at dksX0_chance_4 15 rfl rfl)
theorem dX0_chance_109 : decode cX0_chance 109 = .ok (.iload_n 3, 1) := dk_29 (dk_at dksX0_chance_4 18 rfl rfl)
theorem dX0_chance_110 : decode cX0_chance 110 = .ok (.ifCond .ne 8, 3) := dk_154 0 8 (dk_at dksX0_chance_4 19 rfl rfl)
theorem dX0_chance_113 : decode cX0_chance 113 = .ok (.lload 5, 2) := dk_22 5 (dk_at dksX0_chance_4 22 rfl rfl)
theorem dX0_chance_115 : decode cX0_chance 115 = .ok (.goto 5, 3) := dk_167 0 5 (dk_at dksX0_chance_5 0 rfl rfl)
theorem dX0_chance_118 : decode cX0_chance 118 = .ok (.iload_n 2, 1) := dk_28 (dk_at dksX0_chance_5 3 rfl rfl)
theorem dX0_chance_119 : decode cX0_chance 119 = .ok (.i2l, 1) := dk_133 (dk_at dksX0_chance_5 4 rfl rfl)
theorem dX0_chance_120 : decode cX0_chance 120 = .ok (.lload 7, 2) := dk_22 7 (dk_at dksX0_chance_5 5 rfl rfl)
theorem dX0_chance_122 : decode cX0_chance 122 = .ok (.ldiv, 1) := dk_109 (dk_at dksX0_chance_5 7 rfl rfl)
theorem dX0_chance_123 : decode cX0_chance 123 = .ok (.lreturn, 1) := dk_173 (dk_at dksX0_chance_5 8 rfl rfl)
abbrev cX0_image : ByteArray := prog_1_method_68_code
def yX0_image : MethodName := ⟨RX0, "image", "()I"⟩
def dkwX0_image_7 : List UInt8 := [42, 180, 1, 58, 6, 42, 180, 1, 77, 79, 42, 4, 181, 1, 193, 42, 180, 0, 15, 172]
abbrev dktX0_image_7 : List UInt8 := dkwX0_image_7 ++ []
def dkwX0_image_6 : List UInt8 := [180, 0, 15, 79, 42, 180, 1, 58, 4, 42, 180, 0, 116, 79, 42, 180, 1, 58, 5, 42, 180, 1, 103, 79]
abbrev dktX0_image_6 : List UInt8 := dkwX0_image_6 ++ dktX0_image_7
def dkwX0_image_5 : List UInt8 := [167, 255, 228, 42, 180, 0, 98, 3, 42, 180, 1, 55, 3, 8, 184, 1, 131, 42, 180, 1, 58, 3, 42]
abbrev dktX0_image_5 : List UInt8 := dkwX0_image_5 ++ dktX0_image_6
def dkwX0_image_4 : List UInt8 := [162, 0, 26, 42, 180, 1, 52, 8, 50, 27, 42, 180, 0, 48, 27, 50, 180, 0, 79, 79, 132, 1, 1]
abbrev dktX0_image_4 : List UInt8 := dkwX0_image_4 ++ dktX0_image_5
def dkwX0_image_3 : List UInt8 := [180, 0, 69, 3, 42, 180, 1, 52, 7, 50, 3, 16, 7, 184, 1, 131, 3, 60, 27, 42, 180, 0, 15]
abbrev dktX0_image_3 : List UInt8 := dkwX0_image_3 ++ dktX0_image_4
def dkwX0_image_2 : List UInt8 := [16, 7, 184, 1, 131, 42, 180, 0, 66, 3, 42, 180, 1, 52, 6, 50, 3, 16, 7, 184, 1, 131, 42]
abbrev dktX0_image_2 : List UInt8 := dkwX0_image_2 ++ dktX0_image_3
def dkwX0_image_1 : List UInt8 := [180, 1, 52, 4, 50, 3, 16, 7, 184, 1, 131, 42, 180, 0, 63, 3, 42, 180, 1, 52, 5, 50, 3]
abbrev dktX0_image_1 : List UInt8 := dkwX0_image_1 ++ dktX0_image_2
def dkwX0_image_0 : List UInt8 := [42, 180, 0, 56, 3, 42, 180, 1, 52, 3, 50, 3, 16, 7, 184, 1, 131, 42, 180, 0, 60, 3, 42]
abbrev dktX0_image_0 : List UInt8 := dkwX0_image_0 ++ dktX0_image_1
theorem dksX0_image_0 : cX0_image.data.toList.drop 0 = dktX0_image_0 := by decide +kernel
theorem dksX0_image_1 : cX0_image.data.toList.drop 23 = dktX0_image_1 := dk_seg dksX0_image_0 23 rfl rfl
theorem dksX0_image_2 : cX0_image.data.toList.drop 46 = dktX0_image_2 := dk_seg dksX0_image_1 23 rfl rfl
theorem dksX0_image_3 : cX0_image.data.toList.drop 69 = dktX0_image_3 := dk_seg dksX0_image_2 23 rfl rfl
theorem dksX0_image_4 : cX0_image.data.toList.drop 92 = dktX0_image_4 := dk_seg dksX0_image_3 23 rfl rfl
theorem dksX0_image_5 : cX0_image.data.toList.drop 115 = dktX0_image_5 := dk_seg dksX0_image_4 23 rfl rfl
theorem dksX0_image_6 : cX0_image.data.toList.drop 138 = dktX0_image_6 := dk_seg dksX0_image_5 23 rfl rfl
theorem dksX0_image_7 : cX0_image.data.toList.drop 162 = dktX0_image_7 := dk_seg dksX0_image_6 24 rfl rfl
theorem dX0_image_0 : decode cX0_image 0 = .ok (.aload_n 0, 1) := dk_42 (dk_at dksX0_image_0 0 rfl rfl)
theorem dX0_image_1 : decode cX0_image 1 = .ok (.getfield 56, 3) := dk_180 0 56 (dk_at dksX0_image_0 1 rfl rfl)
theorem dX0_image_4 : decode cX0_image 4 = .ok (.iconst 0, 1) := dk_3 (dk_at dksX0_image_0 4 rfl rfl)
theorem dX0_image_5 : decode cX0_image 5 = .ok (.aload_n 0, 1) := dk_42 (dk_at dksX0_image_0 5 rfl rfl)
theorem dX0_image_6 : decode cX0_image 6 = .ok (.getfield 308, 3) := dk_180 1 52 (dk_at dksX0_image_0 6 rfl rfl)
theorem dX0_image_9 : decode cX0_image 9 = .ok (.iconst 0, 1) := dk_3 (dk_at dksX0_image_0 9 rfl rfl)
theorem dX0_image_10 : decode cX0_image 10 = .ok (.aaload, 1) := dk_50 (dk_at dksX0_image_0 10 rfl rfl)
theorem dX0_image_11 : decode cX0_image 11 = .ok (.iconst 0, 1) := dk_3 (dk_at dksX0_image_0 11 rfl rfl)
theorem dX0_image_12 : decode cX0_image 12 = .ok (.bipush 7, 2) := dk_16 7 (dk_at dksX0_image_0 12 rfl rfl)
theorem dX0_image_14 : decode cX0_image 14 = .ok (.invokestatic 387, 3) := dk_184 1 131 (dk_at dksX0_image_0 14 rfl rfl)
theorem dX0_image_17 : decode cX0_image 17 = .ok (.aload_n 0, 1) := dk_42 (dk_at dksX0_image_0 17 rfl rfl)
theorem dX0_image_18 : decode cX0_image 18 = .ok (.getfield 60, 3) := dk_180 0 60 (dk_at dksX0_image_0 18 rfl rfl)
theorem dX0_image_21 : decode cX0_image 21 = .ok (.iconst 0, 1) := dk_3 (dk_at dksX0_image_0 21 rfl rfl)
theorem dX0_image_22 : decode cX0_image 22 = .ok (.aload_n 0, 1) := dk_42 (dk_at dksX0_image_0 22 rfl rfl)
theorem dX0_image_23 : decode cX0_image 23 = .ok (.getfield 308, 3) := dk_180 1 52 (dk_at dksX0_image_1 0 rfl rfl)
theorem dX0_image_26 : decode cX0_image 26 = .ok (.iconst 1, 1) := dk_4 (dk_at dksX0_image_1 3 rfl rfl)
theorem dX0_image_27 : decode cX0_image 27 = .ok (.aaload, 1) := dk_50 (dk_at dksX0_image_1 4 rfl rfl)
theorem dX0_image_28 : decode cX0_image 28 = .ok (.iconst 0, 1) := dk_3 (dk_at dksX0_image_1 5 rfl rfl)
theorem dX0_image_29 : decode cX0_image 29 = .ok (.bipush 7, 2) := dk_16 7 (dk_at dksX0_image_1 6 rfl rfl)
theorem dX0_image_31 : decode cX0_image 31 = .ok (.invokestatic 387, 3) := dk_184 1 131 (dk_at dksX0_image_1 8 rfl rfl)
theorem dX0_image_34 : decode cX0_image 34 = .ok (.aload_n 0, 1) := dk_42 (dk_at dksX0_image_1 11 rfl rfl)
theorem dX0_image_35 : decode cX0_image 35 = .ok (.getfield 63, 3) := dk_180 0 63 (dk_at dksX0_image_1 12 rfl rfl)
theorem dX0_image_38 : decode cX0_image 38 = .ok (.iconst 0, 1) := dk_3 (dk_at dksX0_image_1 15 rfl rfl)
theorem dX0_image_39 : decode cX0_image 39 = .ok (.aload_n 0, 1) := dk_42 (dk_at dksX0_image_1 16 rfl rfl)
theorem dX0_image_40 : decode cX0_image 40 = .ok (.getfield 308, 3) := dk_180 1 52 (dk_at dksX0_image_1 17 rfl rfl)
theorem dX0_image_43 : decode cX0_image 43 = .ok (.iconst 2, 1) := dk_5 (dk_at dksX0_image_1 20 rfl rfl)
theorem dX0_image_44 : decode cX0_image 44 = .ok (.aaload, 1) := dk_50 (dk_at dksX0_image_1 21 rfl rfl)
theorem dX0_image_45 : decode cX0_image 45 = .ok (.iconst 0, 1) := dk_3 (dk_at dksX0_image_1 22 rfl rfl)
theorem dX0_image_46 : decode cX0_image 46 = .ok (.bipush 7, 2) := dk_16 7 (dk_at dksX0_image_2 0 rfl rfl)
theorem dX0_image_48 : decode cX0_image 48 = .ok (.invokestatic 387, 3) := dk_184 1 131 (dk_at dksX0_image_2 2 rfl rfl)
theorem dX0_image_51 : decode cX0_image 51 = .ok (.aload_n 0, 1) := dk_42 (dk_at dksX0_image_2 5 rfl rfl)
theorem dX0_image_52 : decode cX0_image 52 = .ok (.getfield 66, 3) := dk_180 0 66 (dk_at dksX0_image_2 6 rfl rfl)
theorem dX0_image_55 : decode cX0_image 55 = .ok (.iconst 0, 1) := dk_3 (dk_at dksX0_image_2 9 rfl rfl)
theorem dX0_image_56 : decode cX0_image 56 = .ok (.aload_n 0, 1) := dk_42 (dk_at dksX0_image_2 10 rfl rfl)
theorem dX0_image_57 : decode cX0_image 57 = .ok (.getfield 308, 3) := dk_180 1 52 (dk_at dksX0_image_2 11 rfl rfl)
theorem dX0_image_60 : decode cX0_image 60 = .ok (.iconst 3, 1) := dk_6 (dk_at dksX0_image_2 14 rfl rfl)
theorem dX0_image_61 : decode cX0_image 61 = .ok (.aaload, 1) := dk_50 (dk_at dksX0_image_2 15 rfl rfl)
theorem dX0_image_62 : decode cX0_image 62 = .ok (.iconst 0, 1) := dk_3 (dk_at dksX0_image_2 16 rfl rfl)
theorem dX0_image_63 : decode cX0_image 63 = .ok (.bipush 7, 2) := dk_16 7 (dk_at dksX0_image_2 17 rfl rfl)
theorem dX0_image_65 : decode cX0_image 65 = .ok (.invokestatic 387, 3) := dk_184 1 131 (dk_at dksX0_image_2 19 rfl rfl)
theorem dX0_image_68 : decode cX0_image 68 = .ok (.aload_n 0, 1) := dk_42 (dk_at dksX0_image_2 22 rfl rfl)
theorem dX0_image_69 : decode cX0_image 69 = .ok (.getfield 69, 3) := dk_180 0 69 (dk_at dksX0_image_3 0 rfl rfl)
theorem dX0_image_72 : decode cX0_image 72 = .ok (.iconst 0, 1) := dk_3 (dk_at dksX0_image_3 3 rfl rfl)
theorem dX0_image_73 : decode cX0_image 73 = .ok (.aload_n 0, 1) := dk_42 (dk_at dksX0_image_3 4 rfl rfl)
theorem dX0_image_74 : decode cX0_image 74 = .ok (.getfield 308, 3) := dk_180 1 52 (dk_at dksX0_image_3 5 rfl rfl)
theorem dX0_image_77 : decode cX0_image 77 = .ok (.iconst 4, 1) := dk_7 (dk_at dksX0_image_3 8 rfl rfl)
theorem dX0_image_78 : decode cX0_image 78 = .ok (.aaload, 1) := dk_50 (dk_at dksX0_image_3 9 rfl rfl)
theorem dX0_image_79 : decode cX0_image 79 = .ok (.iconst 0, 1) := dk_3 (dk_at dksX0_image_3 10 rfl rfl)
theorem dX0_image_80 : decode cX0_image 80 = .ok (.bipush 7, 2) := dk_16 7 (dk_at dksX0_image_3 11 rfl rfl)
theorem dX0_image_82 : decode cX0_image 82 = .ok (.invokestatic 387, 3) := dk_184 1 131 (dk_at dksX0_image_3 13 rfl rfl)
theorem dX0_image_85 : decode cX0_image 85 = .ok (.iconst 0, 1) := dk_3 (dk_at dksX0_image_3 16 rfl rfl)
theorem dX0_image_86 : decode cX0_image 86 = .ok (.istore_n 1, 1) := dk_60 (dk_at dksX0_image_3 17 rfl rfl)
theorem dX0_image_87 : decode cX0_image 87 = .ok (.iload_n 1, 1) := dk_27 (dk_at dksX0_image_3 18 rfl rfl)
theorem dX0_image_88 : decode cX0_image 88 = .ok (.aload_n 0, 1) := dk_42 (dk_at dksX0_image_3 19 rfl rfl)
theorem dX0_image_89 : decode cX0_image 89 = .ok (.getfield 15, 3) := dk_180 0 15 (dk_at dksX0_image_3 20 rfl rfl)
theorem dX0_image_92 : decode cX0_image 92 = .ok (.if_icmp .ge 26, 3) := dk_162 0 26 (dk_at dksX0_image_4 0 rfl rfl)
theorem dX0_image_95 : decode cX0_image 95 = .ok (.aload_n 0, 1) := dk_42 (dk_at dksX0_image_4 3 rfl rfl)
theorem dX0_image_96 : decode cX0_image 96 = .ok (.getfield 308, 3) := dk_180 1 52 (dk_at dksX0_image_4 4 rfl rfl)
theorem dX0_image_99 : decode cX0_image 99 = .ok (.iconst 5, 1) := dk_8 (dk_at dksX0_image_4 7 rfl rfl)
theorem dX0_image_100 : decode cX0_image 100 = .ok (.aaload, 1) := dk_50 (dk_at dksX0_image_4 8 rfl rfl)
theorem dX0_image_101 : decode cX0_image 101 = .ok (.iload_n 1, 1) := dk_27 (dk_at dksX0_image_4 9 rfl rfl)
theorem dX0_image_102 : decode cX0_image 102 = .ok (.aload_n 0, 1) := dk_42 (dk_at dksX0_image_4 10 rfl rfl)
theorem dX0_image_103 : decode cX0_image 103 = .ok (.getfield 48, 3) := dk_180 0 48 (dk_at dksX0_image_4 11 rfl rfl)
theorem dX0_image_106 : decode cX0_image 106 = .ok (.iload_n 1, 1) := dk_27 (dk_at dksX0_image_4 14 rfl rfl)
theorem dX0_image_107 : decode cX0_image 107 = .ok (.aaload, 1) := dk_50 (dk_at dksX0_image_4 15 rfl rfl)
theorem dX0_image_108 : decode cX0_image 108 = .ok (.getfield 79, 3) := dk_180 0 79 (dk_at dksX0_image_4 16 rfl rfl)
theorem dX0_image_111 : decode cX0_image 111 = .ok (.iastore, 1) := dk_79 (dk_at dksX0_image_4 19 rfl rfl)
theorem dX0_image_112 : decode cX0_image 112 = .ok (.iinc 1 1, 3) := dk_132 1 1 (dk_at dksX0_image_4 20 rfl rfl)
theorem dX0_image_115 : decode cX0_image 115 = .ok (.goto (-28), 3) := dk_167 255 228 (dk_at dksX0_image_5 0 rfl rfl)
theorem dX0_image_118 : decode cX0_image 118 = .ok (.aload_n 0, 1) := dk_42 (dk_at dksX0_image_5 3 rfl rfl)
theorem dX0_image_119 : decode cX0_image 119 = .ok (.getfield 98, 3) := dk_180 0 98 (dk_at dksX0_image_5 4 rfl rfl)
theorem dX0_image_122 : decode cX0_image 122 = .ok (.iconst 0, 1) := dk_3 (dk_at dksX0_image_5 7 rfl rfl)
theorem dX0_image_123 : decode cX0_image 123 = .ok (.aload_n 0, 1) := dk_42 (dk_at dksX0_image_5 8 rfl rfl)
theorem dX0_image_124 : decode cX0_image 124 = .ok (.getfield 311, 3) := dk_180 1 55 (dk_at dksX0_image_5 9 rfl rfl)
theorem dX0_image_127 : decode cX0_image 127 = .ok (.iconst 0, 1) := dk_3 (dk_at dksX0_image_5 12 rfl rfl)
theorem dX0_image_128 : decode cX0_image 128 = .ok (.iconst 5, 1) := dk_8 (dk_at dksX0_image_5 13 rfl rfl)
theorem dX0_image_129 : decode cX0_image 129 = .ok (.invokestatic 387, 3) := dk_184 1 131 (dk_at dksX0_image_5 14 rfl rfl)
theorem dX0_image_132 : decode cX0_image 132 = .ok (.aload_n 0, 1) := dk_42 (dk_at dksX0_image_5 17 rfl rfl)
theorem dX0_image_133 : decode cX0_image 133 = .ok (.getfield 314, 3) := dk_180 1 58 (dk_at dksX0_image_5 18 rfl rfl)
theorem dX0_image_136 : decode cX0_image 136 = .ok (.iconst 0, 1) := dk_3 (dk_at dksX0_image_5 21 rfl rfl)
theorem dX0_image_137 : decode cX0_image 137 = .ok (.aload_n 0, 1) := dk_42 (dk_at dksX0_image_5 22 rfl rfl)
theorem dX0_image_138 : decode cX0_image 138 = .ok (.getfield 15, 3) := dk_180 0 15 (dk_at dksX0_image_6 0 rfl rfl)
theorem dX0_image_141 : decode cX0_image 141 = .ok (.iastore, 1) := dk_79 (dk_at dksX0_image_6 3 rfl rfl)
theorem dX0_image_142 : decode cX0_image 142 = .ok (.aload_n 0, 1) := dk_42 (dk_at dksX0_image_6 4 rfl rfl)
theorem dX0_image_143 : decode cX0_image 143 = .ok (.getfield 314, 3) := dk_180 1 58 (dk_at dksX0_image_6 5 rfl rfl)
theorem dX0_image_146 : decode cX0_image 146 = .ok (.iconst 1, 1) := dk_4 (dk_at dksX0_image_6 8 rfl rfl)
theorem dX0_image_147 : decode cX0_image 147 = .ok (.aload_n 0, 1) := dk_42 (dk_at dksX0_image_6 9 rfl rfl)
theorem dX0_image_148 : decode cX0_image 148 = .ok (.getfield 116, 3) := dk_180 0 116 (dk_at dksX0_image_6 10 rfl rfl)
theorem dX0_image_151 : decode cX0_image 151 = .ok (.iastore, 1) := dk_79 (dk_at dksX0_image_6 13 rfl rfl)
theorem dX0_image_152 : decode cX0_image 152 = .ok (.aload_n 0, 1) := dk_42 (dk_at dksX0_image_6 14 rfl rfl)
theorem dX0_image_153 : decode cX0_image 153 = .ok (.getfield 314, 3) := dk_180 1 58 (dk_at dksX0_image_6 15 rfl rfl)
theorem dX0_image_156 : decode cX0_image 156 = .ok (.iconst 2, 1) := dk_5 (dk_at dksX0_image_6 18 rfl rfl)
theorem dX0_image_157 : decode cX0_image 157 = .ok (.aload_n 0, 1) := dk_42 (dk_at dksX0_image_6 19 rfl rfl)
theorem dX0_image_158 : decode cX0_image 158 = .ok (.getfield 359, 3) := dk_180 1 103 (dk_at dksX0_image_6 20 rfl rfl)
theorem dX0_image_161 : decode cX0_image 161 = .ok (.iastore, 1) := dk_79 (dk_at dksX0_image_6 23 rfl rfl)
theorem dX0_image_162 : decode cX0_image 162 = .ok (.aload_n 0, 1) := dk_42 (dk_at dksX0_image_7 0 rfl rfl)
theorem dX0_image_163 : decode cX0_image 163 = .ok (.getfield 314, 3) := dk_180 1 58 (dk_at dksX0_image_7 1 rfl rfl)
theorem dX0_image_166 : decode cX0_image 166 = .ok (.iconst 3, 1) := dk_6 (dk_at dksX0_image_7 4 rfl rfl)
theorem dX0_image_167 : decode cX0_image 167 = .ok (.aload_n 0, 1) := dk_42 (dk_at dksX0_image_7 5 rfl rfl)
theorem dX0_image_168 : decode cX0_image 168 = .ok (.getfield 333, 3) := dk_180 1 77 (dk_at dksX0_image_7 6 rfl rfl)
theorem dX0_image_171 : decode cX0_image 171 = .ok (.iastore, 1) := dk_79 (dk_at dksX0_image_7 9 rfl rfl)
theorem dX0_image_172 : decode cX0_image 172 = .ok (.aload_n 0, 1) := dk_42 (dk_at dksX0_image_7 10 rfl rfl)
theorem dX0_image_173 : decode cX0_image 173 = .ok (.iconst 1, 1) := dk_4 (dk_at dksX0_image_7 11 rfl rfl)
theorem dX0_image_174 : decode cX0_image 174 = .ok (.putfield 449, 3) := dk_181 1 193 (dk_at dksX0_image_7 12 rfl rfl)
theorem dX0_image_177 : decode cX0_image 177 = .ok (.aload_n 0, 1) := dk_42 (dk_at dksX0_image_7 15 rfl rfl)
theorem dX0_image_178 : decode cX0_image 178 = .ok (.getfield 15, 3) := dk_180 0 15 (dk_at dksX0_image_7 16 rfl rfl)
theorem dX0_image_181 : decode cX0_image 181 = .ok (.ireturn, 1) := dk_172 (dk_at dksX0_image_7 19 rfl rfl)
abbrev cX0_back : ByteArray := prog_1_method_69_code
def yX0_back : MethodName := ⟨RX0, "back", "()I"⟩
def dkwX0_back_7 : List UInt8 := [180, 1, 52, 8, 50, 27, 46, 181, 0, 79, 132, 1, 1, 167, 255, 228, 42, 180, 0, 15, 172]
abbrev dktX0_back_7 : List UInt8 := dkwX0_back_7 ++ []
def dkwX0_back_6 : List UInt8 := [6, 46, 181, 1, 77, 3, 60, 27, 42, 180, 0, 15, 162, 0, 26, 42, 180, 0, 48, 27, 50, 42]
abbrev dktX0_back_6 : List UInt8 := dkwX0_back_6 ++ dktX0_back_7
def dkwX0_back_5 : List UInt8 := [42, 180, 1, 58, 4, 46, 181, 0, 116, 42, 42, 180, 1, 58, 5, 46, 181, 1, 103, 42, 42, 180, 1, 58]
abbrev dktX0_back_5 : List UInt8 := dkwX0_back_5 ++ dktX0_back_6
def dkwX0_back_4 : List UInt8 := [180, 1, 55, 3, 42, 180, 0, 98, 3, 8, 184, 1, 131, 42, 42, 180, 1, 58, 3, 46, 181, 0, 15, 42]
abbrev dktX0_back_4 : List UInt8 := dkwX0_back_4 ++ dktX0_back_5
def dkwX0_back_3 : List UInt8 := [3, 16, 7, 184, 1, 131, 42, 180, 1, 52, 7, 50, 3, 42, 180, 0, 69, 3, 16, 7, 184, 1, 131, 42]
abbrev dktX0_back_3 : List UInt8 := dkwX0_back_3 ++ dktX0_back_4
def dkwX0_back_2 : List UInt8 := [5, 50, 3, 42, 180, 0, 63, 3, 16, 7, 184, 1, 131, 42, 180, 1, 52, 6, 50, 3, 42, 180, 0, 66]
abbrev dktX0_back_2 : List UInt8 := dkwX0_back_2 ++ dktX0_back_3
def dkwX0_back_1 : List UInt8 := [184, 1, 131, 42, 180, 1, 52, 4, 50, 3, 42, 180, 0, 60, 3, 16, 7, 184, 1, 131, 42, 180, 1, 52]
abbrev dktX0_back_1 : List UInt8 := dkwX0_back_1 ++ dktX0_back_2
def dkwX0_back_0 : List UInt8 := [42, 180, 1, 193, 154, 0, 6, 16, 253, 172, 42, 180, 1, 52, 3, 50, 3, 42, 180, 0, 56, 3, 16, 7]
abbrev dktX0_back_0 : List UInt8 := dkwX0_back_0 ++ dktX0_back_1
theorem dksX0_back_0 : cX0_back.data.toList.drop 0 = dktX0_back_0 := by decide +kernel
theorem dksX0_back_1 : cX0_back.data.toList.drop 24 = dktX0_back_1 := dk_seg dksX0_back_0 24 rfl rfl
theorem dksX0_back_2 : cX0_back.data.toList.drop 48 = dktX0_back_2 := dk_seg dksX0_back_1 24 rfl rfl
theorem dksX0_back_3 : cX0_back.data.toList.drop 72 = dktX0_back_3 := dk_seg dksX0_back_2 24 rfl rfl
theorem dksX0_back_4 : cX0_back.data.toList.drop 96 = dktX0_back_4 := dk_seg dksX0_back_3 24 rfl rfl
theorem dksX0_back_5 : cX0_back.data.toList.drop 120 = dktX0_back_5 := dk_seg dksX0_back_4 24 rfl rfl
theorem dksX0_back_6 : cX0_back.data.toList.drop 144 = dktX0_back_6 := dk_seg dksX0_back_5 24 rfl rfl
theorem dksX0_back_7 : cX0_back.data.toList.drop 166 = dktX0_back_7 := dk_seg dksX0_back_6 22 rfl rfl
theorem dX0_back_0 : decode cX0_back 0 = .ok (.aload_n 0, 1) := dk_42 (dk_at dksX0_back_0 0 rfl rfl)
theorem dX0_back_1 : decode cX0_back 1 = .ok (.getfield 449, 3) := dk_180 1 193 (dk_at dksX0_back_0 1 rfl rfl)
theorem dX0_back_4 : decode cX0_back 4 = .ok (.ifCond .ne 6, 3) := dk_154 0 6 (dk_at dksX0_back_0 4 rfl rfl)
theorem dX0_back_7 : decode cX0_back 7 = .ok (.bipush (-3), 2) := dk_16 253 (dk_at dksX0_back_0 7 rfl rfl)
theorem dX0_back_9 : decode cX0_back 9 = .ok (.ireturn, 1) := dk_172 (dk_at dksX0_back_0 9 rfl rfl)
theorem dX0_back_10 : decode cX0_back 10 = .ok (.aload_n 0, 1) := dk_42 (dk_at dksX0_back_0 10 rfl rfl)
theorem dX0_back_11 : decode cX0_back 11 = .ok (.getfield 308, 3) := dk_180 1 52 (dk_at dksX0_back_0 11 rfl rfl)
theorem dX0_back_14 : decode cX0_back 14 = .ok (.iconst 0, 1) := dk_3 (dk_at dksX0_back_0 14 rfl rfl)
theorem dX0_back_15 : decode cX0_back 15 = .ok (.aaload, 1) := dk_50 (dk_at dksX0_back_0 15 rfl rfl)
theorem dX0_back_16 : decode cX0_back 16 = .ok (.iconst 0, 1) := dk_3 (dk_at dksX0_back_0 16 rfl rfl)
theorem dX0_back_17 : decode cX0_back 17 = .ok (.aload_n 0, 1) := dk_42 (dk_at dksX0_back_0 17 rfl rfl)
theorem dX0_back_18 : decode cX0_back 18 = .ok (.getfield 56, 3) := dk_180 0 56 (dk_at dksX0_back_0 18 rfl rfl)
theorem dX0_back_21 : decode cX0_back 21 = .ok (.iconst 0, 1) := dk_3 (dk_at dksX0_back_0 21 rfl rfl)
theorem dX0_back_22 : decode cX0_back 22 = .ok (.bipush 7, 2) := dk_16 7 (dk_at dksX0_back_0 22 rfl rfl)
theorem dX0_back_24 : decode cX0_back 24 = .ok (.invokestatic 387, 3) := dk_184 1 131 (dk_at dksX0_back_1 0 rfl rfl)
theorem dX0_back_27 : decode cX0_back 27 = .ok (.aload_n 0, 1) := dk_42 (dk_at dksX0_back_1 3 rfl rfl)
theorem dX0_back_28 : decode cX0_back 28 = .ok (.getfield 308, 3) := dk_180 1 52 (dk_at dksX0_back_1 4 rfl rfl)
theorem dX0_back_31 : decode cX0_back 31 = .ok (.iconst 1, 1) := dk_4 (dk_at dksX0_back_1 7 rfl rfl)
theorem dX0_back_32 : decode cX0_back 32 = .ok (.aaload, 1) := dk_50 (dk_at dksX0_back_1 8 rfl rfl)
theorem dX0_back_33 : decode cX0_back 33 = .ok (.iconst 0, 1) := dk_3 (dk_at dksX0_back_1 9 rfl rfl)
theorem dX0_back_34 : decode cX0_back 34 = .ok (.aload_n 0, 1) := dk_42 (dk_at dksX0_back_1 10 rfl rfl)
theorem dX0_back_35 : decode cX0_back 35 = .ok (.getfield 60, 3) := dk_180 0 60 (dk_at dksX0_back_1 11 rfl rfl)
theorem dX0_back_38 : decode cX0_back 38 = .ok (.iconst 0, 1) := dk_3 (dk_at dksX0_back_1 14 rfl rfl)
theorem dX0_back_39 : decode cX0_back 39 = .ok (.bipush 7, 2) := dk_16 7 (dk_at dksX0_back_1 15 rfl rfl)
theorem dX0_back_41 : decode cX0_back 41 = .ok (.invokestatic 387, 3) := dk_184 1 131 (dk_at dksX0_back_1 17 rfl rfl)
theorem dX0_back_44 : decode cX0_back 44 = .ok (.aload_n 0, 1) := dk_42 (dk_at dksX0_back_1 20 rfl rfl)
theorem dX0_back_45 : decode cX0_back 45 = .ok (.getfield 308, 3) := dk_180 1 52 (dk_at dksX0_back_1 21 rfl rfl)
theorem dX0_back_48 : decode cX0_back 48 = .ok (.iconst 2, 1) := dk_5 (dk_at dksX0_back_2 0 rfl rfl)
theorem dX0_back_49 : decode cX0_back 49 = .ok (.aaload, 1) := dk_50 (dk_at dksX0_back_2 1 rfl rfl)
theorem dX0_back_50 : decode cX0_back 50 = .ok (.iconst 0, 1) := dk_3 (dk_at dksX0_back_2 2 rfl rfl)
theorem dX0_back_51 : decode cX0_back 51 = .ok (.aload_n 0, 1) := dk_42 (dk_at dksX0_back_2 3 rfl rfl)
theorem dX0_back_52 : decode cX0_back 52 = .ok (.getfield 63, 3) := dk_180 0 63 (dk_at dksX0_back_2 4 rfl rfl)
theorem dX0_back_55 : decode cX0_back 55 = .ok (.iconst 0, 1) := dk_3 (dk_at dksX0_back_2 7 rfl rfl)
theorem dX0_back_56 : decode cX0_back 56 = .ok (.bipush 7, 2) := dk_16 7 (dk_at dksX0_back_2 8 rfl rfl)
theorem dX0_back_58 : decode cX0_back 58 = .ok (.invokestatic 387, 3) := dk_184 1 131 (dk_at dksX0_back_2 10 rfl rfl)
theorem dX0_back_61 : decode cX0_back 61 = .ok (.aload_n 0, 1) := dk_42 (dk_at dksX0_back_2 13 rfl rfl)
theorem dX0_back_62 : decode cX0_back 62 = .ok (.getfield 308, 3) := dk_180 1 52 (dk_at dksX0_back_2 14 rfl rfl)
theorem dX0_back_65 : decode cX0_back 65 = .ok (.iconst 3, 1) := dk_6 (dk_at dksX0_back_2 17 rfl rfl)
theorem dX0_back_66 : decode cX0_back 66 = .ok (.aaload, 1) := dk_50 (dk_at dksX0_back_2 18 rfl rfl)
theorem dX0_back_67 : decode cX0_back 67 = .ok (.iconst 0, 1) := dk_3 (dk_at dksX0_back_2 19 rfl rfl)
theorem dX0_back_68 : decode cX0_back 68 = .ok (.aload_n 0, 1) := dk_42 (dk_at dksX0_back_2 20 rfl rfl)
theorem dX0_back_69 : decode cX0_back 69 = .ok (.getfield 66, 3) := dk_180 0 66 (dk_at dksX0_back_2 21 rfl rfl)
theorem dX0_back_72 : decode cX0_back 72 = .ok (.iconst 0, 1) := dk_3 (dk_at dksX0_back_3 0 rfl rfl)
theorem dX0_back_73 : decode cX0_back 73 = .ok (.bipush 7, 2) := dk_16 7 (dk_at dksX0_back_3 1 rfl rfl)
theorem dX0_back_75 : decode cX0_back 75 = .ok (.invokestatic 387, 3) := dk_184 1 131 (dk_at dksX0_back_3 3 rfl rfl)
theorem dX0_back_78 : decode cX0_back 78 = .ok (.aload_n 0, 1) := dk_42 (dk_at dksX0_back_3 6 rfl rfl)
theorem dX0_back_79 : decode cX0_back 79 = .ok (.getfield 308, 3) := dk_180 1 52 (dk_at dksX0_back_3 7 rfl rfl)
theorem dX0_back_82 : decode cX0_back 82 = .ok (.iconst 4, 1) := dk_7 (dk_at dksX0_back_3 10 rfl rfl)
theorem dX0_back_83 : decode cX0_back 83 = .ok (.aaload, 1) := dk_50 (dk_at dksX0_back_3 11 rfl rfl)
theorem dX0_back_84 : decode cX0_back 84 = .ok (.iconst 0, 1) := dk_3 (dk_at dksX0_back_3 12 rfl rfl)
theorem dX0_back_85 : decode cX0_back 85 = .ok (.aload_n 0, 1) := dk_42 (dk_at dksX0_back_3 13 rfl rfl)
theorem dX0_back_86 : decode cX0_back 86 = .ok (.getfield 69, 3) := dk_180 0 69 (dk_at dksX0_back_3 14 rfl rfl)
theorem dX0_back_89 : decode cX0_back 89 = .ok (.iconst 0, 1) := dk_3 (dk_at dksX0_back_3 17 rfl rfl)
theorem dX0_back_90 : decode cX0_back 90 = .ok (.bipush 7, 2) := dk_16 7 (dk_at dksX0_back_3 18 rfl rfl)
theorem dX0_back_92 : decode cX0_back 92 = .ok (.invokestatic 387, 3) := dk_184 1 131 (dk_at dksX0_back_3 20 rfl rfl)
theorem dX0_back_95 : decode cX0_back 95 = .ok (.aload_n 0, 1) := dk_42 (dk_at dksX0_back_3 23 rfl rfl)
theorem dX0_back_96 : decode cX0_back 96 = .ok (.getfield 311, 3) := dk_180 1 55 (dk_at dksX0_back_4 0 rfl rfl)
theorem dX0_back_99 : decode cX0_back 99 = .ok (.iconst 0, 1) := dk_3 (dk_at dksX0_back_4 3 rfl rfl)
theorem dX0_back_100 : decode cX0_back 100 = .ok (.aload_n 0, 1) := dk_42 (dk_at dksX0_back_4 4 rfl rfl)
theorem dX0_back_101 : decode cX0_back 101 = .ok (.getfield 98, 3) := dk_180 0 98 (dk_at dksX0_back_4 5 rfl rfl)
theorem dX0_back_104 : decode cX0_back 104 = .ok (.iconst 0, 1) := dk_3 (dk_at dksX0_back_4 8 rfl rfl)
theorem dX0_back_105 : decode cX0_back 105 = .ok (.iconst 5, 1) := dk_8 (dk_at dksX0_back_4 9 rfl rfl)
theorem dX0_back_106 : decode cX0_back 106 = .ok (.invokestatic 387, 3) := dk_184 1 131 (dk_at dksX0_back_4 10 rfl rfl)
theorem dX0_back_109 : decode cX0_back 109 = .ok (.aload_n 0, 1) := dk_42 (dk_at dksX0_back_4 13 rfl rfl)
theorem dX0_back_110 : decode cX0_back 110 = .ok (.aload_n 0, 1) := dk_42 (dk_at dksX0_back_4 14 rfl rfl)
theorem dX0_back_111 : decode cX0_back 111 = .ok (.getfield 314, 3) := dk_180 1 58 (dk_at dksX0_back_4 15 rfl rfl)
theorem dX0_back_114 : decode cX0_back 114 = .ok (.iconst 0, 1) := dk_3 (dk_at dksX0_back_4 18 rfl rfl)
theorem dX0_back_115 : decode cX0_back 115 = .ok (.iaload, 1) := dk_46 (dk_at dksX0_back_4 19 rfl rfl)
theorem dX0_back_116 : decode cX0_back 116 = .ok (.putfield 15, 3) := dk_181 0 15 (dk_at dksX0_back_4 20 rfl rfl)
theorem dX0_back_119 : decode cX0_back 119 = .ok (.aload_n 0, 1) := dk_42 (dk_at dksX0_back_4 23 rfl rfl)
theorem dX0_back_120 : decode cX0_back 120 = .ok (.aload_n 0, 1) := dk_42 (dk_at dksX0_back_5 0 rfl rfl)
theorem dX0_back_121 : decode cX0_back 121 = .ok (.getfield 314, 3) := dk_180 1 58 (dk_at dksX0_back_5 1 rfl rfl)
theorem dX0_back_124 : decode cX0_back 124 = .ok (.iconst 1, 1) := dk_4 (dk_at dksX0_back_5 4 rfl rfl)
theorem dX0_back_125 : decode cX0_back 125 = .ok (.iaload, 1) := dk_46 (dk_at dksX0_back_5 5 rfl rfl)
theorem dX0_back_126 : decode cX0_back 126 = .ok (.putfield 116, 3) := dk_181 0 116 (dk_at dksX0_back_5 6 rfl rfl)
theorem dX0_back_129 : decode cX0_back 129 = .ok (.aload_n 0, 1) := dk_42 (dk_at dksX0_back_5 9 rfl rfl)
theorem dX0_back_130 : decode cX0_back 130 = .ok (.aload_n 0, 1) := dk_42 (dk_at dksX0_back_5 10 rfl rfl)
theorem dX0_back_131 : decode cX0_back 131 = .ok (.getfield 314, 3) := dk_180 1 58 (dk_at dksX0_back_5 11 rfl rfl)
theorem dX0_back_134 : decode cX0_back 134 = .ok (.iconst 2, 1) := dk_5 (dk_at dksX0_back_5 14 rfl rfl)
theorem dX0_back_135 : decode cX0_back 135 = .ok (.iaload, 1) := dk_46 (dk_at dksX0_back_5 15 rfl rfl)
theorem dX0_back_136 : decode cX0_back 136 = .ok (.putfield 359, 3) := dk_181 1 103 (dk_at dksX0_back_5 16 rfl rfl)
theorem dX0_back_139 : decode cX0_back 139 = .ok (.aload_n 0, 1) := dk_42 (dk_at dksX0_back_5 19 rfl rfl)
theorem dX0_back_140 : decode cX0_back 140 = .ok (.aload_n 0, 1) := dk_42 (dk_at dksX0_back_5 20 rfl rfl)
theorem dX0_back_141 : decode cX0_back 141 = .ok (.getfield 314, 3) := dk_180 1 58 (dk_at dksX0_back_5 21 rfl rfl)
theorem dX0_back_144 : decode cX0_back 144 = .ok (.iconst 3, 1) := dk_6 (dk_at dksX0_back_6 0 rfl rfl)
theorem dX0_back_145 : decode cX0_back 145 = .ok (.iaload, 1) := dk_46 (dk_at dksX0_back_6 1 rfl rfl)
theorem dX0_back_146 : decode cX0_back 146 = .ok (.putfield 333, 3) := dk_181 1 77 (dk_at dksX0_back_6 2 rfl rfl)
theorem dX0_back_149 : decode cX0_back 149 = .ok (.iconst 0, 1) := dk_3 (dk_at dksX0_back_6 5 rfl rfl)
theorem dX0_back_150 : decode cX0_back 150 = .ok (.istore_n 1, 1) := dk_60 (dk_at dksX0_back_6 6 rfl rfl)
theorem dX0_back_151 : decode cX0_back 151 = .ok (.iload_n 1, 1) := dk_27 (dk_at dksX0_back_6 7 rfl rfl)
theorem dX0_back_152 : decode cX0_back 152 = .ok (.aload_n 0, 1) := dk_42 (dk_at dksX0_back_6 8 rfl rfl)
theorem dX0_back_153 : decode cX0_back 153 = .ok (.getfield 15, 3) := dk_180 0 15 (dk_at dksX0_back_6 9 rfl rfl)
theorem dX0_back_156 : decode cX0_back 156 = .ok (.if_icmp .ge 26, 3) := dk_162 0 26 (dk_at dksX0_back_6 12 rfl rfl)
theorem dX0_back_159 : decode cX0_back 159 = .ok (.aload_n 0, 1) := dk_42 (dk_at dksX0_back_6 15 rfl rfl)
theorem dX0_back_160 : decode cX0_back 160 = .ok (.getfield 48, 3) := dk_180 0 48 (dk_at dksX0_back_6 16 rfl rfl)
theorem dX0_back_163 : decode cX0_back 163 = .ok (.iload_n 1, 1) := dk_27 (dk_at dksX0_back_6 19 rfl rfl)
theorem dX0_back_164 : decode cX0_back 164 = .ok (.aaload, 1) := dk_50 (dk_at dksX0_back_6 20 rfl rfl)
theorem dX0_back_165 : decode cX0_back 165 = .ok (.aload_n 0, 1) := dk_42 (dk_at dksX0_back_6 21 rfl rfl)
theorem dX0_back_166 : decode cX0_back 166 = .ok (.getfield 308, 3) := dk_180 1 52 (dk_at dksX0_back_7 0 rfl rfl)
theorem dX0_back_169 : decode cX0_back 169 = .ok (.iconst 5, 1) := dk_8 (dk_at dksX0_back_7 3 rfl rfl)
theorem dX0_back_170 : decode cX0_back 170 = .ok (.aaload, 1) := dk_50 (dk_at dksX0_back_7 4 rfl rfl)
theorem dX0_back_171 : decode cX0_back 171 = .ok (.iload_n 1, 1) := dk_27 (dk_at dksX0_back_7 5 rfl rfl)
theorem dX0_back_172 : decode cX0_back 172 = .ok (.iaload, 1) := dk_46 (dk_at dksX0_back_7 6 rfl rfl)
theorem dX0_back_173 : decode cX0_back 173 = .ok (.putfield 79, 3) := dk_181 0 79 (dk_at dksX0_back_7 7 rfl rfl)
theorem dX0_back_176 : decode cX0_back 176 = .ok (.iinc 1 1, 3) := dk_132 1 1 (dk_at dksX0_back_7 10 rfl rfl)
theorem dX0_back_179 : decode cX0_back 179 = .ok (.goto (-28), 3) := dk_167 255 228 (dk_at dksX0_back_7 13 rfl rfl)
theorem dX0_back_182 : decode cX0_back 182 = .ok (.aload_n 0, 1) := dk_42 (dk_at dksX0_back_7 16 rfl rfl)
theorem dX0_back_183 : decode cX0_back 183 = .ok (.getfield 15, 3) := dk_180 0 15 (dk_at dksX0_back_7 17 rfl rfl)
theorem dX0_back_186 : decode cX0_back 186 = .ok (.ireturn, 1) := dk_172 (dk_at dksX0_back_7 20 rfl rfl)
abbrev cX0_count : ByteArray := prog_1_method_71_code
def yX0_count : MethodName := ⟨RX0, "count", "(I)I"⟩
def dkwX0_count_3 : List UInt8 := [180, 0, 98, 7, 46, 172, 42, 180, 1, 4, 172, 42, 180, 0, 249, 172, 42, 180, 1, 77, 172, 16, 254, 172]
abbrev dktX0_count_3 : List UInt8 := dkwX0_count_3 ++ []
def dkwX0_count_2 : List UInt8 := [42, 180, 0, 15, 172, 42, 27, 4, 100, 182, 1, 197, 172, 42, 180, 0, 116, 172, 42, 180, 1, 103, 172, 42]
abbrev dktX0_count_2 : List UInt8 := dkwX0_count_2 ++ dktX0_count_3
def dkwX0_count_1 : List UInt8 := [170, 0, 0, 0, 0, 0, 100, 0, 0, 0, 0, 0, 0, 0, 9, 0, 0, 0, 55, 0, 0, 0, 60, 0, 0, 0, 60, 0, 0, 0, 60, 0, 0, 0, 68, 0, 0, 0, 73, 0, 0, 0, 78, 0, 0, 0, 85, 0, 0, 0, 90, 0, 0, 0, 95]
abbrev dktX0_count_1 : List UInt8 := dkwX0_count_1 ++ dktX0_count_2
def dkwX0_count_0 : List UInt8 := [27]
abbrev dktX0_count_0 : List UInt8 := dkwX0_count_0 ++ dktX0_count_1
theorem dksX0_count_0 : cX0_count.data.toList.drop 0 = dktX0_count_0 := by decide +kernel
theorem dksX0_count_1 : cX0_count.data.toList.drop 1 = dktX0_count_1 := dk_seg dksX0_count_0 1 rfl rfl
theorem dksX0_count_2 : cX0_count.data.toList.drop 56 = dktX0_count_2 := dk_seg dksX0_count_1 55 rfl rfl
theorem dksX0_count_3 : cX0_count.data.toList.drop 80 = dktX0_count_3 := dk_seg dksX0_count_2 24 rfl rfl
theorem dX0_count_0 : decode cX0_count 0 = .ok (.iload_n 1, 1) := dk_27 (dk_at dksX0_count_0 0 rfl rfl)
theorem dX0_count_1 : decode cX0_count 1 = .ok (.tableswitch 100 0 9 #[55, 60, 60, 60, 68, 73, 78, 85, 90, 95], 55) := by decide +kernel
theorem dX0_count_56 : decode cX0_count 56 = .ok (.aload_n 0, 1) := dk_42 (dk_at dksX0_count_2 0 rfl rfl)
theorem dX0_count_57 : decode cX0_count 57 = .ok (.getfield 15, 3) := dk_180 0 15 (dk_at dksX0_count_2 1 rfl rfl)
theorem dX0_count_60 : decode cX0_count 60 = .ok (.ireturn, 1) := dk_172 (dk_at dksX0_count_2 4 rfl rfl)
theorem dX0_count_61 : decode cX0_count 61 = .ok (.aload_n 0, 1) := dk_42 (dk_at dksX0_count_2 5 rfl rfl)
theorem dX0_count_62 : decode cX0_count 62 = .ok (.iload_n 1, 1) := dk_27 (dk_at dksX0_count_2 6 rfl rfl)
theorem dX0_count_63 : decode cX0_count 63 = .ok (.iconst 1, 1) := dk_4 (dk_at dksX0_count_2 7 rfl rfl)
theorem dX0_count_64 : decode cX0_count 64 = .ok (.isub, 1) := dk_100 (dk_at dksX0_count_2 8 rfl rfl)
theorem dX0_count_65 : decode cX0_count 65 = .ok (.invokevirtual 453, 3) := dk_182 1 197 (dk_at dksX0_count_2 9 rfl rfl)
theorem dX0_count_68 : decode cX0_count 68 = .ok (.ireturn, 1) := dk_172 (dk_at dksX0_count_2 12 rfl rfl)
theorem dX0_count_69 : decode cX0_count 69 = .ok (.aload_n 0, 1) := dk_42 (dk_at dksX0_count_2 13 rfl rfl)
theorem dX0_count_70 : decode cX0_count 70 = .ok (.getfield 116, 3) := dk_180 0 116 (dk_at dksX0_count_2 14 rfl rfl)
theorem dX0_count_73 : decode cX0_count 73 = .ok (.ireturn, 1) := dk_172 (dk_at dksX0_count_2 17 rfl rfl)
theorem dX0_count_74 : decode cX0_count 74 = .ok (.aload_n 0, 1) := dk_42 (dk_at dksX0_count_2 18 rfl rfl)
theorem dX0_count_75 : decode cX0_count 75 = .ok (.getfield 359, 3) := dk_180 1 103 (dk_at dksX0_count_2 19 rfl rfl)
theorem dX0_count_78 : decode cX0_count 78 = .ok (.ireturn, 1) := dk_172 (dk_at dksX0_count_2 22 rfl rfl)
theorem dX0_count_79 : decode cX0_count 79 = .ok (.aload_n 0, 1) := dk_42 (dk_at dksX0_count_2 23 rfl rfl)
theorem dX0_count_80 : decode cX0_count 80 = .ok (.getfield 98, 3) := dk_180 0 98 (dk_at dksX0_count_3 0 rfl rfl)
theorem dX0_count_83 : decode cX0_count 83 = .ok (.iconst 4, 1) := dk_7 (dk_at dksX0_count_3 3 rfl rfl)
theorem dX0_count_84 : decode cX0_count 84 = .ok (.iaload, 1) := dk_46 (dk_at dksX0_count_3 4 rfl rfl)
theorem dX0_count_85 : decode cX0_count 85 = .ok (.ireturn, 1) := dk_172 (dk_at dksX0_count_3 5 rfl rfl)
theorem dX0_count_86 : decode cX0_count 86 = .ok (.aload_n 0, 1) := dk_42 (dk_at dksX0_count_3 6 rfl rfl)
theorem dX0_count_87 : decode cX0_count 87 = .ok (.getfield 260, 3) := dk_180 1 4 (dk_at dksX0_count_3 7 rfl rfl)
theorem dX0_count_90 : decode cX0_count 90 = .ok (.ireturn, 1) := dk_172 (dk_at dksX0_count_3 10 rfl rfl)
theorem dX0_count_91 : decode cX0_count 91 = .ok (.aload_n 0, 1) := dk_42 (dk_at dksX0_count_3 11 rfl rfl)
theorem dX0_count_92 : decode cX0_count 92 = .ok (.getfield 249, 3) := dk_180 0 249 (dk_at dksX0_count_3 12 rfl rfl)
theorem dX0_count_95 : decode cX0_count 95 = .ok (.ireturn, 1) := dk_172 (dk_at dksX0_count_3 15 rfl rfl)
theorem dX0_count_96 : decode cX0_count 96 = .ok (.aload_n 0, 1) := dk_42 (dk_at dksX0_count_3 16 rfl rfl)
theorem dX0_count_97 : decode cX0_count 97 = .ok (.getfield 333, 3) := dk_180 1 77 (dk_at dksX0_count_3 17 rfl rfl)
theorem dX0_count_100 : decode cX0_count 100 = .ok (.ireturn, 1) := dk_172 (dk_at dksX0_count_3 20 rfl rfl)
theorem dX0_count_101 : decode cX0_count 101 = .ok (.bipush (-2), 2) := dk_16 254 (dk_at dksX0_count_3 21 rfl rfl)
theorem dX0_count_103 : decode cX0_count 103 = .ok (.ireturn, 1) := dk_172 (dk_at dksX0_count_3 23 rfl rfl)
abbrev cX0_manyAre : ByteArray := prog_1_method_70_code
def yX0_manyAre : MethodName := ⟨RX0, "manyAre", "(I)I"⟩
def dkwX0_manyAre_1 : List UInt8 := [167, 0, 4, 3, 96, 61, 132, 3, 1, 167, 255, 227, 28, 172]
abbrev dktX0_manyAre_1 : List UInt8 := dkwX0_manyAre_1 ++ []
def dkwX0_manyAre_0 : List UInt8 := [3, 61, 3, 62, 29, 42, 180, 0, 15, 162, 0, 27, 28, 42, 180, 0, 66, 29, 46, 27, 160, 0, 7, 4]
abbrev dktX0_manyAre_0 : List UInt8 := dkwX0_manyAre_0 ++ dktX0_manyAre_1
theorem dksX0_manyAre_0 : cX0_manyAre.data.toList.drop 0 = dktX0_manyAre_0 := by decide +kernel
theorem dksX0_manyAre_1 : cX0_manyAre.data.toList.drop 24 = dktX0_manyAre_1 := dk_seg dksX0_manyAre_0 24 rfl rfl
theorem dX0_manyAre_0 : decode cX0_manyAre 0 = .ok (.iconst 0, 1) := dk_3 (dk_at dksX0_manyAre_0 0 rfl rfl)
theorem dX0_manyAre_1 : decode cX0_manyAre 1 = .ok (.istore_n 2, 1) := dk_61 (dk_at dksX0_manyAre_0 1 rfl rfl)
theorem dX0_manyAre_2 : decode cX0_manyAre 2 = .ok (.iconst 0, 1) := dk_3 (dk_at dksX0_manyAre_0 2 rfl rfl)
theorem dX0_manyAre_3 : decode cX0_manyAre 3 = .ok (.istore_n 3, 1) := dk_62 (dk_at dksX0_manyAre_0 3 rfl rfl)
theorem dX0_manyAre_4 : decode cX0_manyAre 4 = .ok (.iload_n 3, 1) := dk_29 (dk_at dksX0_manyAre_0 4 rfl rfl)
theorem dX0_manyAre_5 : decode cX0_manyAre 5 = .ok (.aload_n 0, 1) := dk_42 (dk_at dksX0_manyAre_0 5 rfl rfl)
theorem dX0_manyAre_6 : decode cX0_manyAre 6 = .ok (.getfield 15, 3) := dk_180 0 15 (dk_at dksX0_manyAre_0 6 rfl rfl)
theorem dX0_manyAre_9 : decode cX0_manyAre 9 = .ok (.if_icmp .ge 27, 3) := dk_162 0 27 (dk_at dksX0_manyAre_0 9 rfl rfl)
theorem dX0_manyAre_12 : decode cX0_manyAre 12 = .ok (.iload_n 2, 1) := dk_28 (dk_at dksX0_manyAre_0 12 rfl rfl)
theorem dX0_manyAre_13 : decode cX0_manyAre 13 = .ok (.aload_n 0, 1) := dk_42 (dk_at dksX0_manyAre_0 13 rfl rfl)
theorem dX0_manyAre_14 : decode cX0_manyAre 14 = .ok (.getfield 66, 3) := dk_180 0 66 (dk_at dksX0_manyAre_0 14 rfl rfl)
theorem dX0_manyAre_17 : decode cX0_manyAre 17 = .ok (.iload_n 3, 1) := dk_29 (dk_at dksX0_manyAre_0 17 rfl rfl)
theorem dX0_manyAre_18 : decode cX0_manyAre 18 = .ok (.iaload, 1) := dk_46 (dk_at dksX0_manyAre_0 18 rfl rfl)
theorem dX0_manyAre_19 : decode cX0_manyAre 19 = .ok (.iload_n 1, 1) := dk_27 (dk_at dksX0_manyAre_0 19 rfl rfl)
theorem dX0_manyAre_20 : decode cX0_manyAre 20 = .ok (.if_icmp .ne 7, 3) := dk_160 0 7 (dk_at dksX0_manyAre_0 20 rfl rfl)
theorem dX0_manyAre_23 : decode cX0_manyAre 23 = .ok (.iconst 1, 1) := dk_4 (dk_at dksX0_manyAre_0 23 rfl rfl)
theorem dX0_manyAre_24 : decode cX0_manyAre 24 = .ok (.goto 4, 3) := dk_167 0 4 (dk_at dksX0_manyAre_1 0 rfl rfl)
theorem dX0_manyAre_27 : decode cX0_manyAre 27 = .ok (.iconst 0, 1) := dk_3 (dk_at dksX0_manyAre_1 3 rfl rfl)
theorem dX0_manyAre_28 : decode cX0_manyAre 28 = .ok (.iadd, 1) := dk_96 (dk_at dksX0_manyAre_1 4 rfl rfl)
theorem dX0_manyAre_29 : decode cX0_manyAre 29 = .ok (.istore_n 2, 1) := dk_61 (dk_at dksX0_manyAre_1 5 rfl rfl)
theorem dX0_manyAre_30 : decode cX0_manyAre 30 = .ok (.iinc 3 1, 3) := dk_132 3 1 (dk_at dksX0_manyAre_1 6 rfl rfl)
theorem dX0_manyAre_33 : decode cX0_manyAre 33 = .ok (.goto (-29), 3) := dk_167 255 227 (dk_at dksX0_manyAre_1 9 rfl rfl)
theorem dX0_manyAre_36 : decode cX0_manyAre 36 = .ok (.iload_n 2, 1) := dk_28 (dk_at dksX0_manyAre_1 12 rfl rfl)
theorem dX0_manyAre_37 : decode cX0_manyAre 37 = .ok (.ireturn, 1) := dk_172 (dk_at dksX0_manyAre_1 13 rfl rfl)
abbrev cX0_sheet : ByteArray := prog_1_method_74_code
def yX0_sheet : MethodName := ⟨RX0, "sheet", "(III)I"⟩
def dkwX0_sheet_3 : List UInt8 := [16, 242, 172]
abbrev dktX0_sheet_3 : List UInt8 := dkwX0_sheet_3 ++ []
def dkwX0_sheet_2 : List UInt8 := [181, 1, 165, 4, 172, 42, 180, 1, 64, 27, 50, 28, 29, 184, 1, 204, 181, 1, 165, 4, 172, 58, 4]
abbrev dktX0_sheet_2 : List UInt8 := dkwX0_sheet_2 ++ dktX0_sheet_3
def dkwX0_sheet_1 : List UInt8 := [159, 0, 12, 29, 16, 40, 164, 0, 6, 16, 254, 172, 28, 2, 160, 0, 15, 42, 180, 1, 64, 27, 50, 1]
abbrev dktX0_sheet_1 : List UInt8 := dkwX0_sheet_1 ++ dktX0_sheet_2
def dkwX0_sheet_0 : List UInt8 := [27, 184, 1, 162, 153, 0, 28, 28, 133, 20, 1, 200, 20, 1, 202, 184, 0, 5, 153, 0, 14, 28, 2]
abbrev dktX0_sheet_0 : List UInt8 := dkwX0_sheet_0 ++ dktX0_sheet_1
theorem dksX0_sheet_0 : cX0_sheet.data.toList.drop 0 = dktX0_sheet_0 := by decide +kernel
theorem dksX0_sheet_1 : cX0_sheet.data.toList.drop 23 = dktX0_sheet_1 := dk_seg dksX0_sheet_0 23 rfl rfl
theorem dksX0_sheet_2 : cX0_sheet.data.toList.drop 47 = dktX0_sheet_2 := dk_seg dksX0_sheet_1 24 rfl rfl
theorem dksX0_sheet_3 : cX0_sheet.data.toList.drop 70 = dktX0_sheet_3 := dk_seg dksX0_sheet_2 23 rfl rfl
theorem dX0_sheet_0 : decode cX0_sheet 0 = .ok (.iload_n 1, 1) := dk_27 (dk_at dksX0_sheet_0 0 rfl rfl)
theorem dX0_sheet_1 : decode cX0_sheet 1 = .ok (.invokestatic 418, 3) := dk_184 1 162 (dk_at dksX0_sheet_0 1 rfl rfl)
theorem dX0_sheet_4 : decode cX0_sheet 4 = .ok (.ifCond .eq 28, 3) := dk_153 0 28 (dk_at dksX0_sheet_0 4 rfl rfl)
theorem dX0_sheet_7 : decode cX0_sheet 7 = .ok (.iload_n 2, 1) := dk_28 (dk_at dksX0_sheet_0 7 rfl rfl)
theorem dX0_sheet_8 : decode cX0_sheet 8 = .ok (.i2l, 1) := dk_133 (dk_at dksX0_sheet_0 8 rfl rfl)
theorem dX0_sheet_9 : decode cX0_sheet 9 = .ok (.ldc2_w 456, 3) := dk_20 1 200 (dk_at dksX0_sheet_0 9 rfl rfl)
theorem dX0_sheet_12 : decode cX0_sheet 12 = .ok (.ldc2_w 458, 3) := dk_20 1 202 (dk_at dksX0_sheet_0 12 rfl rfl)
theorem dX0_sheet_15 : decode cX0_sheet 15 = .ok (.invokestatic 5, 3) := dk_184 0 5 (dk_at dksX0_sheet_0 15 rfl rfl)
theorem dX0_sheet_18 : decode cX0_sheet 18 = .ok (.ifCond .eq 14, 3) := dk_153 0 14 (dk_at dksX0_sheet_0 18 rfl rfl)
theorem dX0_sheet_21 : decode cX0_sheet 21 = .ok (.iload_n 2, 1) := dk_28 (dk_at dksX0_sheet_0 21 rfl rfl)
theorem dX0_sheet_22 : decode cX0_sheet 22 = .ok (.iconst (-1), 1) := dk_2 (dk_at dksX0_sheet_0 22 rfl rfl)
theorem dX0_sheet_23 : decode cX0_sheet 23 = .ok (.if_icmp .eq 12, 3) := dk_159 0 12 (dk_at dksX0_sheet_1 0 rfl rfl)
theorem dX0_sheet_26 : decode cX0_sheet 26 = .ok (.iload_n 3, 1) := dk_29 (dk_at dksX0_sheet_1 3 rfl rfl)
theorem dX0_sheet_27 : decode cX0_sheet 27 = .ok (.bipush 40, 2) := dk_16 40 (dk_at dksX0_sheet_1 4 rfl rfl)
theorem dX0_sheet_29 : decode cX0_sheet 29 = .ok (.if_icmp .le 6, 3) := dk_164 0 6 (dk_at dksX0_sheet_1 6 rfl rfl)
theorem dX0_sheet_32 : decode cX0_sheet 32 = .ok (.bipush (-2), 2) := dk_16 254 (dk_at dksX0_sheet_1 9 rfl rfl)
theorem dX0_sheet_34 : decode cX0_sheet 34 = .ok (.ireturn, 1) := dk_172 (dk_at dksX0_sheet_1 11 rfl rfl)
theorem dX0_sheet_35 : decode cX0_sheet 35 = .ok (.iload_n 2, 1) := dk_28 (dk_at dksX0_sheet_1 12 rfl rfl)
theorem dX0_sheet_36 : decode cX0_sheet 36 = .ok (.iconst (-1), 1) := dk_2 (dk_at dksX0_sheet_1 13 rfl rfl)
theorem dX0_sheet_37 : decode cX0_sheet 37 = .ok (.if_icmp .ne 15, 3) := dk_160 0 15 (dk_at dksX0_sheet_1 14 rfl rfl)
theorem dX0_sheet_40 : decode cX0_sheet 40 = .ok (.aload_n 0, 1) := dk_42 (dk_at dksX0_sheet_1 17 rfl rfl)
theorem dX0_sheet_41 : decode cX0_sheet 41 = .ok (.getfield 320, 3) := dk_180 1 64 (dk_at dksX0_sheet_1 18 rfl rfl)
theorem dX0_sheet_44 : decode cX0_sheet 44 = .ok (.iload_n 1, 1) := dk_27 (dk_at dksX0_sheet_1 21 rfl rfl)
theorem dX0_sheet_45 : decode cX0_sheet 45 = .ok (.aaload, 1) := dk_50 (dk_at dksX0_sheet_1 22 rfl rfl)
theorem dX0_sheet_46 : decode cX0_sheet 46 = .ok (.aconst_null, 1) := dk_1 (dk_at dksX0_sheet_1 23 rfl rfl)
theorem dX0_sheet_47 : decode cX0_sheet 47 = .ok (.putfield 421, 3) := dk_181 1 165 (dk_at dksX0_sheet_2 0 rfl rfl)
theorem dX0_sheet_50 : decode cX0_sheet 50 = .ok (.iconst 1, 1) := dk_4 (dk_at dksX0_sheet_2 3 rfl rfl)
theorem dX0_sheet_51 : decode cX0_sheet 51 = .ok (.ireturn, 1) := dk_172 (dk_at dksX0_sheet_2 4 rfl rfl)
theorem dX0_sheet_52 : decode cX0_sheet 52 = .ok (.aload_n 0, 1) := dk_42 (dk_at dksX0_sheet_2 5 rfl rfl)
theorem dX0_sheet_53 : decode cX0_sheet 53 = .ok (.getfield 320, 3) := dk_180 1 64 (dk_at dksX0_sheet_2 6 rfl rfl)
theorem dX0_sheet_56 : decode cX0_sheet 56 = .ok (.iload_n 1, 1) := dk_27 (dk_at dksX0_sheet_2 9 rfl rfl)
theorem dX0_sheet_57 : decode cX0_sheet 57 = .ok (.aaload, 1) := dk_50 (dk_at dksX0_sheet_2 10 rfl rfl)
theorem dX0_sheet_58 : decode cX0_sheet 58 = .ok (.iload_n 2, 1) := dk_28 (dk_at dksX0_sheet_2 11 rfl rfl)
theorem dX0_sheet_59 : decode cX0_sheet 59 = .ok (.iload_n 3, 1) := dk_29 (dk_at dksX0_sheet_2 12 rfl rfl)
theorem dX0_sheet_60 : decode cX0_sheet 60 = .ok (.invokestatic 460, 3) := dk_184 1 204 (dk_at dksX0_sheet_2 13 rfl rfl)
theorem dX0_sheet_63 : decode cX0_sheet 63 = .ok (.putfield 421, 3) := dk_181 1 165 (dk_at dksX0_sheet_2 16 rfl rfl)
theorem dX0_sheet_66 : decode cX0_sheet 66 = .ok (.iconst 1, 1) := dk_4 (dk_at dksX0_sheet_2 19 rfl rfl)
theorem dX0_sheet_67 : decode cX0_sheet 67 = .ok (.ireturn, 1) := dk_172 (dk_at dksX0_sheet_2 20 rfl rfl)
theorem dX0_sheet_68 : decode cX0_sheet 68 = .ok (.astore 4, 2) := dk_58 4 (dk_at dksX0_sheet_2 21 rfl rfl)
theorem dX0_sheet_70 : decode cX0_sheet 70 = .ok (.bipush (-14), 2) := dk_16 242 (dk_at dksX0_sheet_3 0 rfl rfl)
theorem dX0_sheet_72 : decode cX0_sheet 72 = .ok (.ireturn, 1) := dk_172 (dk_at dksX0_sheet_3 2 rfl rfl)
abbrev cX0_rowOf : ByteArray := prog_1_method_73_code
def yX0_rowOf : MethodName := ⟨RX0, "rowOf", "(II)Ljava/lang/Object;"⟩
def dkwX0_rowOf_2 : List UInt8 := [27, 188, 8, 176, 27, 188, 9, 176, 27, 188, 10, 176]
abbrev dktX0_rowOf_2 : List UInt8 := dkwX0_rowOf_2 ++ []
def dkwX0_rowOf_1 : List UInt8 := [171, 0, 0, 0, 0, 0, 35, 0, 0, 0, 2, 0, 0, 0, 0, 0, 0, 0, 27, 0, 0, 0, 1, 0, 0, 0, 31]
abbrev dktX0_rowOf_1 : List UInt8 := dkwX0_rowOf_1 ++ dktX0_rowOf_2
def dkwX0_rowOf_0 : List UInt8 := [26]
abbrev dktX0_rowOf_0 : List UInt8 := dkwX0_rowOf_0 ++ dktX0_rowOf_1
theorem dksX0_rowOf_0 : cX0_rowOf.data.toList.drop 0 = dktX0_rowOf_0 := by decide +kernel
theorem dksX0_rowOf_1 : cX0_rowOf.data.toList.drop 1 = dktX0_rowOf_1 := dk_seg dksX0_rowOf_0 1 rfl rfl
theorem dksX0_rowOf_2 : cX0_rowOf.data.toList.drop 28 = dktX0_rowOf_2 := dk_seg dksX0_rowOf_1 27 rfl rfl
theorem dX0_rowOf_0 : decode cX0_rowOf 0 = .ok (.iload_n 0, 1) := dk_26 (dk_at dksX0_rowOf_0 0 rfl rfl)
theorem dX0_rowOf_1 : decode cX0_rowOf 1 = .ok (.lookupswitch 35 #[(0, 27), (1, 31)], 27) := by decide +kernel
theorem dX0_rowOf_28 : decode cX0_rowOf 28 = .ok (.iload_n 1, 1) := dk_27 (dk_at dksX0_rowOf_2 0 rfl rfl)
theorem dX0_rowOf_29 : decode cX0_rowOf 29 = .ok (.newarray .byte, 2) := dk_188_8 (dk_at dksX0_rowOf_2 1 rfl rfl)
theorem dX0_rowOf_31 : decode cX0_rowOf 31 = .ok (.areturn, 1) := dk_176 (dk_at dksX0_rowOf_2 3 rfl rfl)
theorem dX0_rowOf_32 : decode cX0_rowOf 32 = .ok (.iload_n 1, 1) := dk_27 (dk_at dksX0_rowOf_2 4 rfl rfl)
theorem dX0_rowOf_33 : decode cX0_rowOf 33 = .ok (.newarray .short, 2) := dk_188_9 (dk_at dksX0_rowOf_2 5 rfl rfl)
theorem dX0_rowOf_35 : decode cX0_rowOf 35 = .ok (.areturn, 1) := dk_176 (dk_at dksX0_rowOf_2 7 rfl rfl)
theorem dX0_rowOf_36 : decode cX0_rowOf 36 = .ok (.iload_n 1, 1) := dk_27 (dk_at dksX0_rowOf_2 8 rfl rfl)
theorem dX0_rowOf_37 : decode cX0_rowOf 37 = .ok (.newarray .int, 2) := dk_188_10 (dk_at dksX0_rowOf_2 9 rfl rfl)
theorem dX0_rowOf_39 : decode cX0_rowOf 39 = .ok (.areturn, 1) := dk_176 (dk_at dksX0_rowOf_2 11 rfl rfl)
abbrev cX0_cell : ByteArray := prog_1_method_76_code
def yX0_cell : MethodName := ⟨RX0, "cell", "(III)I"⟩
def dkwX0_cell_1 : List UInt8 := [172, 58, 4, 16, 245, 172, 58, 4, 16, 244, 172]
abbrev dktX0_cell_1 : List UInt8 := dkwX0_cell_1 ++ []
def dkwX0_cell_0 : List UInt8 := [27, 184, 1, 162, 154, 0, 6, 16, 254, 172, 42, 180, 1, 64, 27, 50, 180, 1, 165, 28, 29, 184, 1, 217]
abbrev dktX0_cell_0 : List UInt8 := dkwX0_cell_0 ++ dktX0_cell_1
theorem dksX0_cell_0 : cX0_cell.data.toList.drop 0 = dktX0_cell_0 := by decide +kernel
theorem dksX0_cell_1 : cX0_cell.data.toList.drop 24 = dktX0_cell_1 := dk_seg dksX0_cell_0 24 rfl rfl
theorem dX0_cell_0 : decode cX0_cell 0 = .ok (.iload_n 1, 1) := dk_27 (dk_at dksX0_cell_0 0 rfl rfl)
theorem dX0_cell_1 : decode cX0_cell 1 = .ok (.invokestatic 418, 3) := dk_184 1 162 (dk_at dksX0_cell_0 1 rfl rfl)
theorem dX0_cell_4 : decode cX0_cell 4 = .ok (.ifCond .ne 6, 3) := dk_154 0 6 (dk_at dksX0_cell_0 4 rfl rfl)
theorem dX0_cell_7 : decode cX0_cell 7 = .ok (.bipush (-2), 2) := dk_16 254 (dk_at dksX0_cell_0 7 rfl rfl)
theorem dX0_cell_9 : decode cX0_cell 9 = .ok (.ireturn, 1) := dk_172 (dk_at dksX0_cell_0 9 rfl rfl)
theorem dX0_cell_10 : decode cX0_cell 10 = .ok (.aload_n 0, 1) := dk_42 (dk_at dksX0_cell_0 10 rfl rfl)
theorem dX0_cell_11 : decode cX0_cell 11 = .ok (.getfield 320, 3) := dk_180 1 64 (dk_at dksX0_cell_0 11 rfl rfl)
theorem dX0_cell_14 : decode cX0_cell 14 = .ok (.iload_n 1, 1) := dk_27 (dk_at dksX0_cell_0 14 rfl rfl)
theorem dX0_cell_15 : decode cX0_cell 15 = .ok (.aaload, 1) := dk_50 (dk_at dksX0_cell_0 15 rfl rfl)
theorem dX0_cell_16 : decode cX0_cell 16 = .ok (.getfield 421, 3) := dk_180 1 165 (dk_at dksX0_cell_0 16 rfl rfl)
theorem dX0_cell_19 : decode cX0_cell 19 = .ok (.iload_n 2, 1) := dk_28 (dk_at dksX0_cell_0 19 rfl rfl)
theorem dX0_cell_20 : decode cX0_cell 20 = .ok (.iload_n 3, 1) := dk_29 (dk_at dksX0_cell_0 20 rfl rfl)
theorem dX0_cell_21 : decode cX0_cell 21 = .ok (.invokestatic 473, 3) := dk_184 1 217 (dk_at dksX0_cell_0 21 rfl rfl)
theorem dX0_cell_24 : decode cX0_cell 24 = .ok (.ireturn, 1) := dk_172 (dk_at dksX0_cell_1 0 rfl rfl)
theorem dX0_cell_25 : decode cX0_cell 25 = .ok (.astore 4, 2) := dk_58 4 (dk_at dksX0_cell_1 1 rfl rfl)
theorem dX0_cell_27 : decode cX0_cell 27 = .ok (.bipush (-11), 2) := dk_16 245 (dk_at dksX0_cell_1 3 rfl rfl)
theorem dX0_cell_29 : decode cX0_cell 29 = .ok (.ireturn, 1) := dk_172 (dk_at dksX0_cell_1 5 rfl rfl)
theorem dX0_cell_30 : decode cX0_cell 30 = .ok (.astore 4, 2) := dk_58 4 (dk_at dksX0_cell_1 6 rfl rfl)
theorem dX0_cell_32 : decode cX0_cell 32 = .ok (.bipush (-12), 2) := dk_16 244 (dk_at dksX0_cell_1 8 rfl rfl)
theorem dX0_cell_34 : decode cX0_cell 34 = .ok (.ireturn, 1) := dk_172 (dk_at dksX0_cell_1 10 rfl rfl)
abbrev cX0_put : ByteArray := prog_1_method_75_code
def yX0_put : MethodName := ⟨RX0, "put", "(Ljava/lang/Object;II)I"⟩
def dkwX0_put_2 : List UInt8 := [28, 147, 86, 167, 0, 19, 27, 42, 192, 1, 216, 190, 184, 1, 211, 42, 192, 1, 216, 27, 28, 79, 4, 172]
abbrev dktX0_put_2 : List UInt8 := dkwX0_put_2 ++ []
def dkwX0_put_1 : List UInt8 := [167, 0, 46, 42, 193, 1, 214, 153, 0, 23, 27, 42, 192, 1, 214, 190, 184, 1, 211, 42, 192, 1, 214, 27]
abbrev dktX0_put_1 : List UInt8 := dkwX0_put_1 ++ dktX0_put_2
def dkwX0_put_0 : List UInt8 := [42, 193, 1, 210, 153, 0, 23, 27, 42, 192, 1, 210, 190, 184, 1, 211, 42, 192, 1, 210, 27, 28, 145, 84]
abbrev dktX0_put_0 : List UInt8 := dkwX0_put_0 ++ dktX0_put_1
theorem dksX0_put_0 : cX0_put.data.toList.drop 0 = dktX0_put_0 := by decide +kernel
theorem dksX0_put_1 : cX0_put.data.toList.drop 24 = dktX0_put_1 := dk_seg dksX0_put_0 24 rfl rfl
theorem dksX0_put_2 : cX0_put.data.toList.drop 48 = dktX0_put_2 := dk_seg dksX0_put_1 24 rfl rfl
theorem dX0_put_0 : decode cX0_put 0 = .ok (.aload_n 0, 1) := dk_42 (dk_at dksX0_put_0 0 rfl rfl)
theorem dX0_put_1 : decode cX0_put 1 = .ok (.instanceof 466, 3) := dk_193 1 210 (dk_at dksX0_put_0 1 rfl rfl)
theorem dX0_put_4 : decode cX0_put 4 = .ok (.ifCond .eq 23, 3) := dk_153 0 23 (dk_at dksX0_put_0 4 rfl rfl)
theorem dX0_put_7 : decode cX0_put 7 = .ok (.iload_n 1, 1) := dk_27 (dk_at dksX0_put_0 7 rfl rfl)
theorem dX0_put_8 : decode cX0_put 8 = .ok (.aload_n 0, 1) := dk_42 (dk_at dksX0_put_0 8 rfl rfl)
theorem dX0_put_9 : decode cX0_put 9 = .ok (.checkcast 466, 3) := dk_192 1 210 (dk_at dksX0_put_0 9 rfl rfl)
theorem dX0_put_12 : decode cX0_put 12 = .ok (.arraylength, 1) := dk_190 (dk_at dksX0_put_0 12 rfl rfl)
theorem dX0_put_13 : decode cX0_put 13 = .ok (.invokestatic 467, 3) := dk_184 1 211 (dk_at dksX0_put_0 13 rfl rfl)
theorem dX0_put_16 : decode cX0_put 16 = .ok (.aload_n 0, 1) := dk_42 (dk_at dksX0_put_0 16 rfl rfl)
theorem dX0_put_17 : decode cX0_put 17 = .ok (.checkcast 466, 3) := dk_192 1 210 (dk_at dksX0_put_0 17 rfl rfl)
theorem dX0_put_20 : decode cX0_put 20 = .ok (.iload_n 1, 1) := dk_27 (dk_at dksX0_put_0 20 rfl rfl)
theorem dX0_put_21 : decode cX0_put 21 = .ok (.iload_n 2, 1) := dk_28 (dk_at dksX0_put_0 21 rfl rfl)
theorem dX0_put_22 : decode cX0_put 22 = .ok (.i2b, 1) := dk_145 (dk_at dksX0_put_0 22 rfl rfl)
theorem dX0_put_23 : decode cX0_put 23 = .ok (.bastore, 1) := dk_84 (dk_at dksX0_put_0 23 rfl rfl)
theorem dX0_put_24 : decode cX0_put 24 = .ok (.goto 46, 3) := dk_167 0 46 (dk_at dksX0_put_1 0 rfl rfl)
theorem dX0_put_27 : decode cX0_put 27 = .ok (.aload_n 0, 1) := dk_42 (dk_at dksX0_put_1 3 rfl rfl)
theorem dX0_put_28 : decode cX0_put 28 = .ok (.instanceof 470, 3) := dk_193 1 214 (dk_at dksX0_put_1 4 rfl rfl)
theorem dX0_put_31 : decode cX0_put 31 = .ok (.ifCond .eq 23, 3) := dk_153 0 23 (dk_at dksX0_put_1 7 rfl rfl)
theorem dX0_put_34 : decode cX0_put 34 = .ok (.iload_n 1, 1) := dk_27 (dk_at dksX0_put_1 10 rfl rfl)
theorem dX0_put_35 : decode cX0_put 35 = .ok (.aload_n 0, 1) := dk_42 (dk_at dksX0_put_1 11 rfl rfl)
theorem dX0_put_36 : decode cX0_put 36 = .ok (.checkcast 470, 3) := dk_192 1 214 (dk_at dksX0_put_1 12 rfl rfl)
theorem dX0_put_39 : decode cX0_put 39 = .ok (.arraylength, 1) := dk_190 (dk_at dksX0_put_1 15 rfl rfl)
theorem dX0_put_40 : decode cX0_put 40 = .ok (.invokestatic 467, 3) := dk_184 1 211 (dk_at dksX0_put_1 16 rfl rfl)
theorem dX0_put_43 : decode cX0_put 43 = .ok (.aload_n 0, 1) := dk_42 (dk_at dksX0_put_1 19 rfl rfl)
theorem dX0_put_44 : decode cX0_put 44 = .ok (.checkcast 470, 3) := dk_192 1 214 (dk_at dksX0_put_1 20 rfl rfl)
theorem dX0_put_47 : decode cX0_put 47 = .ok (.iload_n 1, 1) := dk_27 (dk_at dksX0_put_1 23 rfl rfl)
theorem dX0_put_48 : decode cX0_put 48 = .ok (.iload_n 2, 1) := dk_28 (dk_at dksX0_put_2 0 rfl rfl)
theorem dX0_put_49 : decode cX0_put 49 = .ok (.i2s, 1) := dk_147 (dk_at dksX0_put_2 1 rfl rfl)
theorem dX0_put_50 : decode cX0_put 50 = .ok (.sastore, 1) := dk_86 (dk_at dksX0_put_2 2 rfl rfl)
theorem dX0_put_51 : decode cX0_put 51 = .ok (.goto 19, 3) := dk_167 0 19 (dk_at dksX0_put_2 3 rfl rfl)
theorem dX0_put_54 : decode cX0_put 54 = .ok (.iload_n 1, 1) := dk_27 (dk_at dksX0_put_2 6 rfl rfl)
theorem dX0_put_55 : decode cX0_put 55 = .ok (.aload_n 0, 1) := dk_42 (dk_at dksX0_put_2 7 rfl rfl)
theorem dX0_put_56 : decode cX0_put 56 = .ok (.checkcast 472, 3) := dk_192 1 216 (dk_at dksX0_put_2 8 rfl rfl)
theorem dX0_put_59 : decode cX0_put 59 = .ok (.arraylength, 1) := dk_190 (dk_at dksX0_put_2 11 rfl rfl)
theorem dX0_put_60 : decode cX0_put 60 = .ok (.invokestatic 467, 3) := dk_184 1 211 (dk_at dksX0_put_2 12 rfl rfl)
theorem dX0_put_63 : decode cX0_put 63 = .ok (.aload_n 0, 1) := dk_42 (dk_at dksX0_put_2 15 rfl rfl)
theorem dX0_put_64 : decode cX0_put 64 = .ok (.checkcast 472, 3) := dk_192 1 216 (dk_at dksX0_put_2 16 rfl rfl)
theorem dX0_put_67 : decode cX0_put 67 = .ok (.iload_n 1, 1) := dk_27 (dk_at dksX0_put_2 19 rfl rfl)
theorem dX0_put_68 : decode cX0_put 68 = .ok (.iload_n 2, 1) := dk_28 (dk_at dksX0_put_2 20 rfl rfl)
theorem dX0_put_69 : decode cX0_put 69 = .ok (.iastore, 1) := dk_79 (dk_at dksX0_put_2 21 rfl rfl)
theorem dX0_put_70 : decode cX0_put 70 = .ok (.iconst 1, 1) := dk_4 (dk_at dksX0_put_2 22 rfl rfl)
theorem dX0_put_71 : decode cX0_put 71 = .ok (.ireturn, 1) := dk_172 (dk_at dksX0_put_2 23 rfl rfl)
abbrev cX0_copy : ByteArray := prog_1_method_81_code
def yX0_copy : MethodName := ⟨RX0, "copy", "(IIIII)I"⟩
def dkwX0_copy_6 : List UInt8 := [172, 25, 6, 28, 25, 7, 21, 4, 21, 5, 184, 1, 131, 21, 5, 172]
abbrev dktX0_copy_6 : List UInt8 := dkwX0_copy_6 ++ []
def dkwX0_copy_5 : List UInt8 := [163, 0, 22, 21, 5, 21, 8, 28, 100, 163, 0, 13, 21, 5, 21, 9, 21, 4, 100, 164, 0, 6, 16, 244]
abbrev dktX0_copy_5 : List UInt8 := dkwX0_copy_5 ++ dktX0_copy_6
def dkwX0_copy_4 : List UInt8 := [155, 0, 44, 28, 155, 0, 40, 21, 4, 155, 0, 35, 28, 21, 8, 163, 0, 29, 21, 4, 21, 9]
abbrev dktX0_copy_4 : List UInt8 := dkwX0_copy_4 ++ dktX0_copy_5
def dkwX0_copy_3 : List UInt8 := [25, 6, 184, 1, 169, 184, 1, 173, 54, 8, 25, 7, 25, 7, 184, 1, 169, 184, 1, 173, 54, 9, 21, 5]
abbrev dktX0_copy_3 : List UInt8 := dkwX0_copy_3 ++ dktX0_copy_4
def dkwX0_copy_2 : List UInt8 := [199, 0, 6, 16, 245, 172, 25, 6, 184, 1, 169, 25, 7, 184, 1, 169, 159, 0, 6, 16, 243, 172, 25, 6]
abbrev dktX0_copy_2 : List UInt8 := dkwX0_copy_2 ++ dktX0_copy_3
def dkwX0_copy_1 : List UInt8 := [180, 1, 165, 58, 6, 42, 180, 1, 64, 29, 50, 180, 1, 165, 58, 7, 25, 6, 198, 0, 8, 25, 7]
abbrev dktX0_copy_1 : List UInt8 := dkwX0_copy_1 ++ dktX0_copy_2
def dkwX0_copy_0 : List UInt8 := [27, 184, 1, 162, 153, 0, 10, 29, 184, 1, 162, 154, 0, 6, 16, 254, 172, 42, 180, 1, 64, 27, 50]
abbrev dktX0_copy_0 : List UInt8 := dkwX0_copy_0 ++ dktX0_copy_1
theorem dksX0_copy_0 : cX0_copy.data.toList.drop 0 = dktX0_copy_0 := by decide +kernel
theorem dksX0_copy_1 : cX0_copy.data.toList.drop 23 = dktX0_copy_1 := dk_seg dksX0_copy_0 23 rfl rfl
theorem dksX0_copy_2 : cX0_copy.data.toList.drop 46 = dktX0_copy_2 := dk_seg dksX0_copy_1 23 rfl rfl
theorem dksX0_copy_3 : cX0_copy.data.toList.drop 70 = dktX0_copy_3 := dk_seg dksX0_copy_2 24 rfl rfl
theorem dksX0_copy_4 : cX0_copy.data.toList.drop 94 = dktX0_copy_4 := dk_seg dksX0_copy_3 24 rfl rfl
theorem dksX0_copy_5 : cX0_copy.data.toList.drop 116 = dktX0_copy_5 := dk_seg dksX0_copy_4 22 rfl rfl
theorem dksX0_copy_6 : cX0_copy.data.toList.drop 140 = dktX0_copy_6 := dk_seg dksX0_copy_5 24 rfl rfl
theorem dX0_copy_0 : decode cX0_copy 0 = .ok (.iload_n 1, 1) := dk_27 (dk_at dksX0_copy_0 0 rfl rfl)
theorem dX0_copy_1 : decode cX0_copy 1 = .ok (.invokestatic 418, 3) := dk_184 1 162 (dk_at dksX0_copy_0 1 rfl rfl)
theorem dX0_copy_4 : decode cX0_copy 4 = .ok (.ifCond .eq 10, 3) := dk_153 0 10 (dk_at dksX0_copy_0 4 rfl rfl)
theorem dX0_copy_7 : decode cX0_copy 7 = .ok (.iload_n 3, 1) := dk_29 (dk_at dksX0_copy_0 7 rfl rfl)
theorem dX0_copy_8 : decode cX0_copy 8 = .ok (.invokestatic 418, 3) := dk_184 1 162 (dk_at dksX0_copy_0 8 rfl rfl)
theorem dX0_copy_11 : decode cX0_copy 11 = .ok (.ifCond .ne 6, 3) := dk_154 0 6 (dk_at dksX0_copy_0 11 rfl rfl)
theorem dX0_copy_14 : decode cX0_copy 14 = .ok (.bipush (-2), 2) := dk_16 254 (dk_at dksX0_copy_0 14 rfl rfl)
theorem dX0_copy_16 : decode cX0_copy 16 = .ok (.ireturn, 1) := dk_172 (dk_at dksX0_copy_0 16 rfl rfl)
theorem dX0_copy_17 : decode cX0_copy 17 = .ok (.aload_n 0, 1) := dk_42 (dk_at dksX0_copy_0 17 rfl rfl)
theorem dX0_copy_18 : decode cX0_copy 18 = .ok (.getfield 320, 3) := dk_180 1 64 (dk_at dksX0_copy_0 18 rfl rfl)
theorem dX0_copy_21 : decode cX0_copy 21 = .ok (.iload_n 1, 1) := dk_27 (dk_at dksX0_copy_0 21 rfl rfl)
theorem dX0_copy_22 : decode cX0_copy 22 = .ok (.aaload, 1) := dk_50 (dk_at dksX0_copy_0 22 rfl rfl)
theorem dX0_copy_23 : decode cX0_copy 23 = .ok (.getfield 421, 3) := dk_180 1 165 (dk_at dksX0_copy_1 0 rfl rfl)
theorem dX0_copy_26 : decode cX0_copy 26 = .ok (.astore 6, 2) := dk_58 6 (dk_at dksX0_copy_1 3 rfl rfl)
theorem dX0_copy_28 : decode cX0_copy 28 = .ok (.aload_n 0, 1) := dk_42 (dk_at dksX0_copy_1 5 rfl rfl)
theorem dX0_copy_29 : decode cX0_copy 29 = .ok (.getfield 320, 3) := dk_180 1 64 (dk_at dksX0_copy_1 6 rfl rfl)
theorem dX0_copy_32 : decode cX0_copy 32 = .ok (.iload_n 3, 1) := dk_29 (dk_at dksX0_copy_1 9 rfl rfl)
theorem dX0_copy_33 : decode cX0_copy 33 = .ok (.aaload, 1) := dk_50 (dk_at dksX0_copy_1 10 rfl rfl)
theorem dX0_copy_34 : decode cX0_copy 34 = .ok (.getfield 421, 3) := dk_180 1 165 (dk_at dksX0_copy_1 11 rfl rfl)
theorem dX0_copy_37 : decode cX0_copy 37 = .ok (.astore 7, 2) := dk_58 7 (dk_at dksX0_copy_1 14 rfl rfl)
theorem dX0_copy_39 : decode cX0_copy 39 = .ok (.aload 6, 2) := dk_25 6 (dk_at dksX0_copy_1 16 rfl rfl)
theorem dX0_copy_41 : decode cX0_copy 41 = .ok (.ifnull 8, 3) := dk_198 0 8 (dk_at dksX0_copy_1 18 rfl rfl)
theorem dX0_copy_44 : decode cX0_copy 44 = .ok (.aload 7, 2) := dk_25 7 (dk_at dksX0_copy_1 21 rfl rfl)
theorem dX0_copy_46 : decode cX0_copy 46 = .ok (.ifnonnull 6, 3) := dk_199 0 6 (dk_at dksX0_copy_2 0 rfl rfl)
theorem dX0_copy_49 : decode cX0_copy 49 = .ok (.bipush (-11), 2) := dk_16 245 (dk_at dksX0_copy_2 3 rfl rfl)
theorem dX0_copy_51 : decode cX0_copy 51 = .ok (.ireturn, 1) := dk_172 (dk_at dksX0_copy_2 5 rfl rfl)
theorem dX0_copy_52 : decode cX0_copy 52 = .ok (.aload 6, 2) := dk_25 6 (dk_at dksX0_copy_2 6 rfl rfl)
theorem dX0_copy_54 : decode cX0_copy 54 = .ok (.invokestatic 425, 3) := dk_184 1 169 (dk_at dksX0_copy_2 8 rfl rfl)
theorem dX0_copy_57 : decode cX0_copy 57 = .ok (.aload 7, 2) := dk_25 7 (dk_at dksX0_copy_2 11 rfl rfl)
theorem dX0_copy_59 : decode cX0_copy 59 = .ok (.invokestatic 425, 3) := dk_184 1 169 (dk_at dksX0_copy_2 13 rfl rfl)
theorem dX0_copy_62 : decode cX0_copy 62 = .ok (.if_icmp .eq 6, 3) := dk_159 0 6 (dk_at dksX0_copy_2 16 rfl rfl)
theorem dX0_copy_65 : decode cX0_copy 65 = .ok (.bipush (-13), 2) := dk_16 243 (dk_at dksX0_copy_2 19 rfl rfl)
theorem dX0_copy_67 : decode cX0_copy 67 = .ok (.ireturn, 1) := dk_172 (dk_at dksX0_copy_2 21 rfl rfl)
theorem dX0_copy_68 : decode cX0_copy 68 = .ok (.aload 6, 2) := dk_25 6 (dk_at dksX0_copy_2 22 rfl rfl)
theorem dX0_copy_70 : decode cX0_copy 70 = .ok (.aload 6, 2) := dk_25 6 (dk_at dksX0_copy_3 0 rfl rfl)
theorem dX0_copy_72 : decode cX0_copy 72 = .ok (.invokestatic 425, 3) := dk_184 1 169 (dk_at dksX0_copy_3 2 rfl rfl)
theorem dX0_copy_75 : decode cX0_copy 75 = .ok (.invokestatic 429, 3) := dk_184 1 173 (dk_at dksX0_copy_3 5 rfl rfl)
theorem dX0_copy_78 : decode cX0_copy 78 = .ok (.istore 8, 2) := dk_54 8 (dk_at dksX0_copy_3 8 rfl rfl)
theorem dX0_copy_80 : decode cX0_copy 80 = .ok (.aload 7, 2) := dk_25 7 (dk_at dksX0_copy_3 10 rfl rfl)
theorem dX0_copy_82 : decode cX0_copy 82 = .ok (.aload 7, 2) := dk_25 7 (dk_at dksX0_copy_3 12 rfl rfl)
theorem dX0_copy_84 : decode cX0_copy 84 = .ok (.invokestatic 425, 3) := dk_184 1 169 (dk_at dksX0_copy_3 14 rfl rfl)
theorem dX0_copy_87 : decode cX0_copy 87 = .ok (.invokestatic 429, 3) := dk_184 1 173 (dk_at dksX0_copy_3 17 rfl rfl)
theorem dX0_copy_90 : decode cX0_copy 90 = .ok (.istore 9, 2) := dk_54 9 (dk_at dksX0_copy_3 20 rfl rfl)
theorem dX0_copy_92 : decode cX0_copy 92 = .ok (.iload 5, 2) := dk_21 5 (dk_at dksX0_copy_3 22 rfl rfl)
theorem dX0_copy_94 : decode cX0_copy 94 = .ok (.ifCond .lt 44, 3) := dk_155 0 44 (dk_at dksX0_copy_4 0 rfl rfl)
theorem dX0_copy_97 : decode cX0_copy 97 = .ok (.iload_n 2, 1) := dk_28 (dk_at dksX0_copy_4 3 rfl rfl)
theorem dX0_copy_98 : decode cX0_copy 98 = .ok (.ifCond .lt 40, 3) := dk_155 0 40 (dk_at dksX0_copy_4 4 rfl rfl)
theorem dX0_copy_101 : decode cX0_copy 101 = .ok (.iload 4, 2) := dk_21 4 (dk_at dksX0_copy_4 7 rfl rfl)
theorem dX0_copy_103 : decode cX0_copy 103 = .ok (.ifCond .lt 35, 3) := dk_155 0 35 (dk_at dksX0_copy_4 9 rfl rfl)
theorem dX0_copy_106 : decode cX0_copy 106 = .ok (.iload_n 2, 1) := dk_28 (dk_at dksX0_copy_4 12 rfl rfl)
theorem dX0_copy_107 : decode cX0_copy 107 = .ok (.iload 8, 2) := dk_21 8 (dk_at dksX0_copy_4 13 rfl rfl)
theorem dX0_copy_109 : decode cX0_copy 109 = .ok (.if_icmp .gt 29, 3) := dk_163 0 29 (dk_at dksX0_copy_4 15 rfl rfl)
theorem dX0_copy_112 : decode cX0_copy 112 = .ok (.iload 4, 2) := dk_21 4 (dk_at dksX0_copy_4 18 rfl rfl)
theorem dX0_copy_114 : decode cX0_copy 114 = .ok (.iload 9, 2) := dk_21 9 (dk_at dksX0_copy_4 20 rfl rfl)
theorem dX0_copy_116 : decode cX0_copy 116 = .ok (.if_icmp .gt 22, 3) := dk_163 0 22 (dk_at dksX0_copy_5 0 rfl rfl)
theorem dX0_copy_119 : decode cX0_copy 119 = .ok (.iload 5, 2) := dk_21 5 (dk_at dksX0_copy_5 3 rfl rfl)
theorem dX0_copy_121 : decode cX0_copy 121 = .ok (.iload 8, 2) := dk_21 8 (dk_at dksX0_copy_5 5 rfl rfl)
theorem dX0_copy_123 : decode cX0_copy 123 = .ok (.iload_n 2, 1) := dk_28 (dk_at dksX0_copy_5 7 rfl rfl)
theorem dX0_copy_124 : decode cX0_copy 124 = .ok (.isub, 1) := dk_100 (dk_at dksX0_copy_5 8 rfl rfl)
theorem dX0_copy_125 : decode cX0_copy 125 = .ok (.if_icmp .gt 13, 3) := dk_163 0 13 (dk_at dksX0_copy_5 9 rfl rfl)
theorem dX0_copy_128 : decode cX0_copy 128 = .ok (.iload 5, 2) := dk_21 5 (dk_at dksX0_copy_5 12 rfl rfl)
theorem dX0_copy_130 : decode cX0_copy 130 = .ok (.iload 9, 2) := dk_21 9 (dk_at dksX0_copy_5 14 rfl rfl)
theorem dX0_copy_132 : decode cX0_copy 132 = .ok (.iload 4, 2) := dk_21 4 (dk_at dksX0_copy_5 16 rfl rfl)
theorem dX0_copy_134 : decode cX0_copy 134 = .ok (.isub, 1) := dk_100 (dk_at dksX0_copy_5 18 rfl rfl)
theorem dX0_copy_135 : decode cX0_copy 135 = .ok (.if_icmp .le 6, 3) := dk_164 0 6 (dk_at dksX0_copy_5 19 rfl rfl)
theorem dX0_copy_138 : decode cX0_copy 138 = .ok (.bipush (-12), 2) := dk_16 244 (dk_at dksX0_copy_5 22 rfl rfl)
theorem dX0_copy_140 : decode cX0_copy 140 = .ok (.ireturn, 1) := dk_172 (dk_at dksX0_copy_6 0 rfl rfl)
theorem dX0_copy_141 : decode cX0_copy 141 = .ok (.aload 6, 2) := dk_25 6 (dk_at dksX0_copy_6 1 rfl rfl)
theorem dX0_copy_143 : decode cX0_copy 143 = .ok (.iload_n 2, 1) := dk_28 (dk_at dksX0_copy_6 3 rfl rfl)
theorem dX0_copy_144 : decode cX0_copy 144 = .ok (.aload 7, 2) := dk_25 7 (dk_at dksX0_copy_6 4 rfl rfl)
theorem dX0_copy_146 : decode cX0_copy 146 = .ok (.iload 4, 2) := dk_21 4 (dk_at dksX0_copy_6 6 rfl rfl)
theorem dX0_copy_148 : decode cX0_copy 148 = .ok (.iload 5, 2) := dk_21 5 (dk_at dksX0_copy_6 8 rfl rfl)
theorem dX0_copy_150 : decode cX0_copy 150 = .ok (.invokestatic 387, 3) := dk_184 1 131 (dk_at dksX0_copy_6 10 rfl rfl)
theorem dX0_copy_153 : decode cX0_copy 153 = .ok (.iload 5, 2) := dk_21 5 (dk_at dksX0_copy_6 13 rfl rfl)
theorem dX0_copy_155 : decode cX0_copy 155 = .ok (.ireturn, 1) := dk_172 (dk_at dksX0_copy_6 15 rfl rfl)
abbrev cX0_boats : ByteArray := prog_1_method_83_code
def yX0_boats : MethodName := ⟨RX0, "boats", "(IIII)I"⟩
def dkwX0_boats_2 : List UInt8 := [21, 4, 182, 1, 227, 172, 58, 5, 16, 243, 172, 58, 5, 16, 245, 172, 58, 5, 16, 244, 172]
abbrev dktX0_boats_2 : List UInt8 := dkwX0_boats_2 ++ []
def dkwX0_boats_1 : List UInt8 := [20, 1, 151, 184, 0, 5, 154, 0, 6, 16, 254, 172, 42, 42, 180, 1, 64, 27, 50, 180, 1, 165, 28, 29]
abbrev dktX0_boats_1 : List UInt8 := dkwX0_boats_1 ++ dktX0_boats_2
def dkwX0_boats_0 : List UInt8 := [27, 184, 1, 162, 153, 0, 28, 28, 133, 9, 20, 1, 202, 184, 0, 5, 153, 0, 16, 21, 4, 133, 9]
abbrev dktX0_boats_0 : List UInt8 := dkwX0_boats_0 ++ dktX0_boats_1
theorem dksX0_boats_0 : cX0_boats.data.toList.drop 0 = dktX0_boats_0 := by decide +kernel
theorem dksX0_boats_1 : cX0_boats.data.toList.drop 23 = dktX0_boats_1 := dk_seg dksX0_boats_0 23 rfl rfl
theorem dksX0_boats_2 : cX0_boats.data.toList.drop 47 = dktX0_boats_2 := dk_seg dksX0_boats_1 24 rfl rfl
theorem dX0_boats_0 : decode cX0_boats 0 = .ok (.iload_n 1, 1) := dk_27 (dk_at dksX0_boats_0 0 rfl rfl)
theorem dX0_boats_1 : decode cX0_boats 1 = .ok (.invokestatic 418, 3) := dk_184 1 162 (dk_at dksX0_boats_0 1 rfl rfl)
theorem dX0_boats_4 : decode cX0_boats 4 = .ok (.ifCond .eq 28, 3) := dk_153 0 28 (dk_at dksX0_boats_0 4 rfl rfl)
theorem dX0_boats_7 : decode cX0_boats 7 = .ok (.iload_n 2, 1) := dk_28 (dk_at dksX0_boats_0 7 rfl rfl)
theorem dX0_boats_8 : decode cX0_boats 8 = .ok (.i2l, 1) := dk_133 (dk_at dksX0_boats_0 8 rfl rfl)
theorem dX0_boats_9 : decode cX0_boats 9 = .ok (.lconst 0, 1) := dk_9 (dk_at dksX0_boats_0 9 rfl rfl)
theorem dX0_boats_10 : decode cX0_boats 10 = .ok (.ldc2_w 458, 3) := dk_20 1 202 (dk_at dksX0_boats_0 10 rfl rfl)
theorem dX0_boats_13 : decode cX0_boats 13 = .ok (.invokestatic 5, 3) := dk_184 0 5 (dk_at dksX0_boats_0 13 rfl rfl)
theorem dX0_boats_16 : decode cX0_boats 16 = .ok (.ifCond .eq 16, 3) := dk_153 0 16 (dk_at dksX0_boats_0 16 rfl rfl)
theorem dX0_boats_19 : decode cX0_boats 19 = .ok (.iload 4, 2) := dk_21 4 (dk_at dksX0_boats_0 19 rfl rfl)
theorem dX0_boats_21 : decode cX0_boats 21 = .ok (.i2l, 1) := dk_133 (dk_at dksX0_boats_0 21 rfl rfl)
theorem dX0_boats_22 : decode cX0_boats 22 = .ok (.lconst 0, 1) := dk_9 (dk_at dksX0_boats_0 22 rfl rfl)
theorem dX0_boats_23 : decode cX0_boats 23 = .ok (.ldc2_w 407, 3) := dk_20 1 151 (dk_at dksX0_boats_1 0 rfl rfl)
theorem dX0_boats_26 : decode cX0_boats 26 = .ok (.invokestatic 5, 3) := dk_184 0 5 (dk_at dksX0_boats_1 3 rfl rfl)
theorem dX0_boats_29 : decode cX0_boats 29 = .ok (.ifCond .ne 6, 3) := dk_154 0 6 (dk_at dksX0_boats_1 6 rfl rfl)
theorem dX0_boats_32 : decode cX0_boats 32 = .ok (.bipush (-2), 2) := dk_16 254 (dk_at dksX0_boats_1 9 rfl rfl)
theorem dX0_boats_34 : decode cX0_boats 34 = .ok (.ireturn, 1) := dk_172 (dk_at dksX0_boats_1 11 rfl rfl)
theorem dX0_boats_35 : decode cX0_boats 35 = .ok (.aload_n 0, 1) := dk_42 (dk_at dksX0_boats_1 12 rfl rfl)
theorem dX0_boats_36 : decode cX0_boats 36 = .ok (.aload_n 0, 1) := dk_42 (dk_at dksX0_boats_1 13 rfl rfl)
theorem dX0_boats_37 : decode cX0_boats 37 = .ok (.getfield 320, 3) := dk_180 1 64 (dk_at dksX0_boats_1 14 rfl rfl)
theorem dX0_boats_40 : decode cX0_boats 40 = .ok (.iload_n 1, 1) := dk_27 (dk_at dksX0_boats_1 17 rfl rfl)
theorem dX0_boats_41 : decode cX0_boats 41 = .ok (.aaload, 1) := dk_50 (dk_at dksX0_boats_1 18 rfl rfl)
theorem dX0_boats_42 : decode cX0_boats 42 = .ok (.getfield 421, 3) := dk_180 1 165 (dk_at dksX0_boats_1 19 rfl rfl)
theorem dX0_boats_45 : decode cX0_boats 45 = .ok (.iload_n 2, 1) := dk_28 (dk_at dksX0_boats_1 22 rfl rfl)
theorem dX0_boats_46 : decode cX0_boats 46 = .ok (.iload_n 3, 1) := dk_29 (dk_at dksX0_boats_1 23 rfl rfl)
theorem dX0_boats_47 : decode cX0_boats 47 = .ok (.iload 4, 2) := dk_21 4 (dk_at dksX0_boats_2 0 rfl rfl)
theorem dX0_boats_49 : decode cX0_boats 49 = .ok (.invokevirtual 483, 3) := dk_182 1 227 (dk_at dksX0_boats_2 2 rfl rfl)
theorem dX0_boats_52 : decode cX0_boats 52 = .ok (.ireturn, 1) := dk_172 (dk_at dksX0_boats_2 5 rfl rfl)
theorem dX0_boats_53 : decode cX0_boats 53 = .ok (.astore 5, 2) := dk_58 5 (dk_at dksX0_boats_2 6 rfl rfl)
theorem dX0_boats_55 : decode cX0_boats 55 = .ok (.bipush (-13), 2) := dk_16 243 (dk_at dksX0_boats_2 8 rfl rfl)
theorem dX0_boats_57 : decode cX0_boats 57 = .ok (.ireturn, 1) := dk_172 (dk_at dksX0_boats_2 10 rfl rfl)
theorem dX0_boats_58 : decode cX0_boats 58 = .ok (.astore 5, 2) := dk_58 5 (dk_at dksX0_boats_2 11 rfl rfl)
theorem dX0_boats_60 : decode cX0_boats 60 = .ok (.bipush (-11), 2) := dk_16 245 (dk_at dksX0_boats_2 13 rfl rfl)
theorem dX0_boats_62 : decode cX0_boats 62 = .ok (.ireturn, 1) := dk_172 (dk_at dksX0_boats_2 15 rfl rfl)
theorem dX0_boats_63 : decode cX0_boats 63 = .ok (.astore 5, 2) := dk_58 5 (dk_at dksX0_boats_2 16 rfl rfl)
theorem dX0_boats_65 : decode cX0_boats 65 = .ok (.bipush (-12), 2) := dk_16 244 (dk_at dksX0_boats_2 18 rfl rfl)
theorem dX0_boats_67 : decode cX0_boats 67 = .ok (.ireturn, 1) := dk_172 (dk_at dksX0_boats_2 20 rfl rfl)
abbrev cX0_came : ByteArray := prog_1_method_82_code
def yX0_came : MethodName := ⟨RX0, "came", "(Ljava/lang/Object;III)I"⟩
def dkwX0_came_3 : List UInt8 := [155, 0, 7, 4, 167, 0, 4, 3, 96, 54, 6, 132, 7, 1, 167, 255, 184, 21, 6, 172]
abbrev dktX0_came_3 : List UInt8 := dkwX0_came_3 ++ []
def dkwX0_came_2 : List UInt8 := [21, 6, 42, 21, 8, 21, 9, 43, 28, 29, 6, 21, 7, 104, 96, 5, 96, 184, 1, 177, 182, 1, 225]
abbrev dktX0_came_2 : List UInt8 := dkwX0_came_2 ++ dktX0_came_3
def dkwX0_came_1 : List UInt8 := [21, 7, 104, 96, 184, 1, 177, 54, 8, 43, 28, 29, 6, 21, 7, 104, 96, 4, 96, 184, 1, 177, 54, 9]
abbrev dktX0_came_1 : List UInt8 := dkwX0_came_1 ++ dktX0_came_2
def dkwX0_came_0 : List UInt8 := [43, 28, 184, 1, 173, 54, 5, 3, 54, 6, 3, 54, 7, 21, 7, 21, 4, 162, 0, 71, 43, 28, 29, 6]
abbrev dktX0_came_0 : List UInt8 := dkwX0_came_0 ++ dktX0_came_1
theorem dksX0_came_0 : cX0_came.data.toList.drop 0 = dktX0_came_0 := by decide +kernel
theorem dksX0_came_1 : cX0_came.data.toList.drop 24 = dktX0_came_1 := dk_seg dksX0_came_0 24 rfl rfl
theorem dksX0_came_2 : cX0_came.data.toList.drop 48 = dktX0_came_2 := dk_seg dksX0_came_1 24 rfl rfl
theorem dksX0_came_3 : cX0_came.data.toList.drop 71 = dktX0_came_3 := dk_seg dksX0_came_2 23 rfl rfl
theorem dX0_came_0 : decode cX0_came 0 = .ok (.aload_n 1, 1) := dk_43 (dk_at dksX0_came_0 0 rfl rfl)
theorem dX0_came_1 : decode cX0_came 1 = .ok (.iload_n 2, 1) := dk_28 (dk_at dksX0_came_0 1 rfl rfl)
theorem dX0_came_2 : decode cX0_came 2 = .ok (.invokestatic 429, 3) := dk_184 1 173 (dk_at dksX0_came_0 2 rfl rfl)
theorem dX0_came_5 : decode cX0_came 5 = .ok (.istore 5, 2) := dk_54 5 (dk_at dksX0_came_0 5 rfl rfl)
theorem dX0_came_7 : decode cX0_came 7 = .ok (.iconst 0, 1) := dk_3 (dk_at dksX0_came_0 7 rfl rfl)
theorem dX0_came_8 : decode cX0_came 8 = .ok (.istore 6, 2) := dk_54 6 (dk_at dksX0_came_0 8 rfl rfl)
theorem dX0_came_10 : decode cX0_came 10 = .ok (.iconst 0, 1) := dk_3 (dk_at dksX0_came_0 10 rfl rfl)
theorem dX0_came_11 : decode cX0_came 11 = .ok (.istore 7, 2) := dk_54 7 (dk_at dksX0_came_0 11 rfl rfl)
theorem dX0_came_13 : decode cX0_came 13 = .ok (.iload 7, 2) := dk_21 7 (dk_at dksX0_came_0 13 rfl rfl)
theorem dX0_came_15 : decode cX0_came 15 = .ok (.iload 4, 2) := dk_21 4 (dk_at dksX0_came_0 15 rfl rfl)
theorem dX0_came_17 : decode cX0_came 17 = .ok (.if_icmp .ge 71, 3) := dk_162 0 71 (dk_at dksX0_came_0 17 rfl rfl)
theorem dX0_came_20 : decode cX0_came 20 = .ok (.aload_n 1, 1) := dk_43 (dk_at dksX0_came_0 20 rfl rfl)
theorem dX0_came_21 : decode cX0_came 21 = .ok (.iload_n 2, 1) := dk_28 (dk_at dksX0_came_0 21 rfl rfl)
theorem dX0_came_22 : decode cX0_came 22 = .ok (.iload_n 3, 1) := dk_29 (dk_at dksX0_came_0 22 rfl rfl)
theorem dX0_came_23 : decode cX0_came 23 = .ok (.iconst 3, 1) := dk_6 (dk_at dksX0_came_0 23 rfl rfl)
theorem dX0_came_24 : decode cX0_came 24 = .ok (.iload 7, 2) := dk_21 7 (dk_at dksX0_came_1 0 rfl rfl)
theorem dX0_came_26 : decode cX0_came 26 = .ok (.imul, 1) := dk_104 (dk_at dksX0_came_1 2 rfl rfl)
theorem dX0_came_27 : decode cX0_came 27 = .ok (.iadd, 1) := dk_96 (dk_at dksX0_came_1 3 rfl rfl)
theorem dX0_came_28 : decode cX0_came 28 = .ok (.invokestatic 433, 3) := dk_184 1 177 (dk_at dksX0_came_1 4 rfl rfl)
theorem dX0_came_31 : decode cX0_came 31 = .ok (.istore 8, 2) := dk_54 8 (dk_at dksX0_came_1 7 rfl rfl)
theorem dX0_came_33 : decode cX0_came 33 = .ok (.aload_n 1, 1) := dk_43 (dk_at dksX0_came_1 9 rfl rfl)
theorem dX0_came_34 : decode cX0_came 34 = .ok (.iload_n 2, 1) := dk_28 (dk_at dksX0_came_1 10 rfl rfl)
theorem dX0_came_35 : decode cX0_came 35 = .ok (.iload_n 3, 1) := dk_29 (dk_at dksX0_came_1 11 rfl rfl)
theorem dX0_came_36 : decode cX0_came 36 = .ok (.iconst 3, 1) := dk_6 (dk_at dksX0_came_1 12 rfl rfl)
theorem dX0_came_37 : decode cX0_came 37 = .ok (.iload 7, 2) := dk_21 7 (dk_at dksX0_came_1 13 rfl rfl)
theorem dX0_came_39 : decode cX0_came 39 = .ok (.imul, 1) := dk_104 (dk_at dksX0_came_1 15 rfl rfl)
theorem dX0_came_40 : decode cX0_came 40 = .ok (.iadd, 1) := dk_96 (dk_at dksX0_came_1 16 rfl rfl)
theorem dX0_came_41 : decode cX0_came 41 = .ok (.iconst 1, 1) := dk_4 (dk_at dksX0_came_1 17 rfl rfl)
theorem dX0_came_42 : decode cX0_came 42 = .ok (.iadd, 1) := dk_96 (dk_at dksX0_came_1 18 rfl rfl)
theorem dX0_came_43 : decode cX0_came 43 = .ok (.invokestatic 433, 3) := dk_184 1 177 (dk_at dksX0_came_1 19 rfl rfl)
theorem dX0_came_46 : decode cX0_came 46 = .ok (.istore 9, 2) := dk_54 9 (dk_at dksX0_came_1 22 rfl rfl)
theorem dX0_came_48 : decode cX0_came 48 = .ok (.iload 6, 2) := dk_21 6 (dk_at dksX0_came_2 0 rfl rfl)
theorem dX0_came_50 : decode cX0_came 50 = .ok (.aload_n 0, 1) := dk_42 (dk_at dksX0_came_2 2 rfl rfl)
theorem dX0_came_51 : decode cX0_came 51 = .ok (.iload 8, 2) := dk_21 8 (dk_at dksX0_came_2 3 rfl rfl)
theorem dX0_came_53 : decode cX0_came 53 = .ok (.iload 9, 2) := dk_21 9 (dk_at dksX0_came_2 5 rfl rfl)
theorem dX0_came_55 : decode cX0_came 55 = .ok (.aload_n 1, 1) := dk_43 (dk_at dksX0_came_2 7 rfl rfl)
theorem dX0_came_56 : decode cX0_came 56 = .ok (.iload_n 2, 1) := dk_28 (dk_at dksX0_came_2 8 rfl rfl)
theorem dX0_came_57 : decode cX0_came 57 = .ok (.iload_n 3, 1) := dk_29 (dk_at dksX0_came_2 9 rfl rfl)
theorem dX0_came_58 : decode cX0_came 58 = .ok (.iconst 3, 1) := dk_6 (dk_at dksX0_came_2 10 rfl rfl)
theorem dX0_came_59 : decode cX0_came 59 = .ok (.iload 7, 2) := dk_21 7 (dk_at dksX0_came_2 11 rfl rfl)
theorem dX0_came_61 : decode cX0_came 61 = .ok (.imul, 1) := dk_104 (dk_at dksX0_came_2 13 rfl rfl)
theorem dX0_came_62 : decode cX0_came 62 = .ok (.iadd, 1) := dk_96 (dk_at dksX0_came_2 14 rfl rfl)
theorem dX0_came_63 : decode cX0_came 63 = .ok (.iconst 2, 1) := dk_5 (dk_at dksX0_came_2 15 rfl rfl)
theorem dX0_came_64 : decode cX0_came 64 = .ok (.iadd, 1) := dk_96 (dk_at dksX0_came_2 16 rfl rfl)
theorem dX0_came_65 : decode cX0_came 65 = .ok (.invokestatic 433, 3) := dk_184 1 177 (dk_at dksX0_came_2 17 rfl rfl)
theorem dX0_came_68 : decode cX0_came 68 = .ok (.invokevirtual 481, 3) := dk_182 1 225 (dk_at dksX0_came_2 20 rfl rfl)
theorem dX0_came_71 : decode cX0_came 71 = .ok (.ifCond .lt 7, 3) := dk_155 0 7 (dk_at dksX0_came_3 0 rfl rfl)
theorem dX0_came_74 : decode cX0_came 74 = .ok (.iconst 1, 1) := dk_4 (dk_at dksX0_came_3 3 rfl rfl)
theorem dX0_came_75 : decode cX0_came 75 = .ok (.goto 4, 3) := dk_167 0 4 (dk_at dksX0_came_3 4 rfl rfl)
theorem dX0_came_78 : decode cX0_came 78 = .ok (.iconst 0, 1) := dk_3 (dk_at dksX0_came_3 7 rfl rfl)
theorem dX0_came_79 : decode cX0_came 79 = .ok (.iadd, 1) := dk_96 (dk_at dksX0_came_3 8 rfl rfl)
theorem dX0_came_80 : decode cX0_came 80 = .ok (.istore 6, 2) := dk_54 6 (dk_at dksX0_came_3 9 rfl rfl)
theorem dX0_came_82 : decode cX0_came 82 = .ok (.iinc 7 1, 3) := dk_132 7 1 (dk_at dksX0_came_3 11 rfl rfl)
theorem dX0_came_85 : decode cX0_came 85 = .ok (.goto (-72), 3) := dk_167 255 184 (dk_at dksX0_came_3 14 rfl rfl)
theorem dX0_came_88 : decode cX0_came 88 = .ok (.iload 6, 2) := dk_21 6 (dk_at dksX0_came_3 17 rfl rfl)
theorem dX0_came_90 : decode cX0_came 90 = .ok (.ireturn, 1) := dk_172 (dk_at dksX0_came_3 19 rfl rfl)
abbrev cX0_taken : ByteArray := prog_1_method_85_code
def yX0_taken : MethodName := ⟨RX0, "taken", "(II)I"⟩
def dkwX0_taken_2 : List UInt8 := [172]
abbrev dktX0_taken_2 : List UInt8 := dkwX0_taken_2 ++ []
def dkwX0_taken_1 : List UInt8 := [180, 0, 48, 27, 50, 167, 0, 4, 1, 28, 184, 1, 233, 180, 0, 79, 172, 78, 16, 245, 172, 78, 16, 243]
abbrev dktX0_taken_1 : List UInt8 := dkwX0_taken_1 ++ dktX0_taken_2
def dkwX0_taken_0 : List UInt8 := [28, 133, 9, 20, 0, 40, 184, 0, 5, 154, 0, 6, 16, 254, 172, 42, 27, 182, 0, 72, 153, 0, 12, 42]
abbrev dktX0_taken_0 : List UInt8 := dkwX0_taken_0 ++ dktX0_taken_1
theorem dksX0_taken_0 : cX0_taken.data.toList.drop 0 = dktX0_taken_0 := by decide +kernel
theorem dksX0_taken_1 : cX0_taken.data.toList.drop 24 = dktX0_taken_1 := dk_seg dksX0_taken_0 24 rfl rfl
theorem dksX0_taken_2 : cX0_taken.data.toList.drop 48 = dktX0_taken_2 := dk_seg dksX0_taken_1 24 rfl rfl
theorem dX0_taken_0 : decode cX0_taken 0 = .ok (.iload_n 2, 1) := dk_28 (dk_at dksX0_taken_0 0 rfl rfl)
theorem dX0_taken_1 : decode cX0_taken 1 = .ok (.i2l, 1) := dk_133 (dk_at dksX0_taken_0 1 rfl rfl)
theorem dX0_taken_2 : decode cX0_taken 2 = .ok (.lconst 0, 1) := dk_9 (dk_at dksX0_taken_0 2 rfl rfl)
theorem dX0_taken_3 : decode cX0_taken 3 = .ok (.ldc2_w 40, 3) := dk_20 0 40 (dk_at dksX0_taken_0 3 rfl rfl)
theorem dX0_taken_6 : decode cX0_taken 6 = .ok (.invokestatic 5, 3) := dk_184 0 5 (dk_at dksX0_taken_0 6 rfl rfl)
theorem dX0_taken_9 : decode cX0_taken 9 = .ok (.ifCond .ne 6, 3) := dk_154 0 6 (dk_at dksX0_taken_0 9 rfl rfl)
theorem dX0_taken_12 : decode cX0_taken 12 = .ok (.bipush (-2), 2) := dk_16 254 (dk_at dksX0_taken_0 12 rfl rfl)
theorem dX0_taken_14 : decode cX0_taken 14 = .ok (.ireturn, 1) := dk_172 (dk_at dksX0_taken_0 14 rfl rfl)
theorem dX0_taken_15 : decode cX0_taken 15 = .ok (.aload_n 0, 1) := dk_42 (dk_at dksX0_taken_0 15 rfl rfl)
theorem dX0_taken_16 : decode cX0_taken 16 = .ok (.iload_n 1, 1) := dk_27 (dk_at dksX0_taken_0 16 rfl rfl)
theorem dX0_taken_17 : decode cX0_taken 17 = .ok (.invokevirtual 72, 3) := dk_182 0 72 (dk_at dksX0_taken_0 17 rfl rfl)
theorem dX0_taken_20 : decode cX0_taken 20 = .ok (.ifCond .eq 12, 3) := dk_153 0 12 (dk_at dksX0_taken_0 20 rfl rfl)
theorem dX0_taken_23 : decode cX0_taken 23 = .ok (.aload_n 0, 1) := dk_42 (dk_at dksX0_taken_0 23 rfl rfl)
theorem dX0_taken_24 : decode cX0_taken 24 = .ok (.getfield 48, 3) := dk_180 0 48 (dk_at dksX0_taken_1 0 rfl rfl)
theorem dX0_taken_27 : decode cX0_taken 27 = .ok (.iload_n 1, 1) := dk_27 (dk_at dksX0_taken_1 3 rfl rfl)
theorem dX0_taken_28 : decode cX0_taken 28 = .ok (.aaload, 1) := dk_50 (dk_at dksX0_taken_1 4 rfl rfl)
theorem dX0_taken_29 : decode cX0_taken 29 = .ok (.goto 4, 3) := dk_167 0 4 (dk_at dksX0_taken_1 5 rfl rfl)
theorem dX0_taken_32 : decode cX0_taken 32 = .ok (.aconst_null, 1) := dk_1 (dk_at dksX0_taken_1 8 rfl rfl)
theorem dX0_taken_33 : decode cX0_taken 33 = .ok (.iload_n 2, 1) := dk_28 (dk_at dksX0_taken_1 9 rfl rfl)
theorem dX0_taken_34 : decode cX0_taken 34 = .ok (.invokestatic 489, 3) := dk_184 1 233 (dk_at dksX0_taken_1 10 rfl rfl)
theorem dX0_taken_37 : decode cX0_taken 37 = .ok (.getfield 79, 3) := dk_180 0 79 (dk_at dksX0_taken_1 13 rfl rfl)
theorem dX0_taken_40 : decode cX0_taken 40 = .ok (.ireturn, 1) := dk_172 (dk_at dksX0_taken_1 16 rfl rfl)
theorem dX0_taken_41 : decode cX0_taken 41 = .ok (.astore_n 3, 1) := dk_78 (dk_at dksX0_taken_1 17 rfl rfl)
theorem dX0_taken_42 : decode cX0_taken 42 = .ok (.bipush (-11), 2) := dk_16 245 (dk_at dksX0_taken_1 18 rfl rfl)
theorem dX0_taken_44 : decode cX0_taken 44 = .ok (.ireturn, 1) := dk_172 (dk_at dksX0_taken_1 20 rfl rfl)
theorem dX0_taken_45 : decode cX0_taken 45 = .ok (.astore_n 3, 1) := dk_78 (dk_at dksX0_taken_1 21 rfl rfl)
theorem dX0_taken_46 : decode cX0_taken 46 = .ok (.bipush (-13), 2) := dk_16 243 (dk_at dksX0_taken_1 22 rfl rfl)
theorem dX0_taken_48 : decode cX0_taken 48 = .ok (.ireturn, 1) := dk_172 (dk_at dksX0_taken_2 0 rfl rfl)
abbrev cX0_as : ByteArray := prog_1_method_84_code
def yX0_as : MethodName := ⟨RX0, "as", "(LBoatsCalledIn$Boat;I)LBoatsCalledIn$Boat;"⟩
def dkwX0_as_3 : List UInt8 := [176, 42, 176]
abbrev dktX0_as_3 : List UInt8 := dkwX0_as_3 ++ []
def dkwX0_as_2 : List UInt8 := [42, 192, 0, 19, 176, 42, 192, 0, 25, 176, 42, 192, 0, 28, 176, 42, 192, 0, 31, 176, 42, 192, 0, 34]
abbrev dktX0_as_2 : List UInt8 := dkwX0_as_2 ++ dktX0_as_3
def dkwX0_as_1 : List UInt8 := [170, 0, 0, 0, 0, 0, 60, 0, 0, 0, 1, 0, 0, 0, 5, 0, 0, 0, 35, 0, 0, 0, 40, 0, 0, 0, 45, 0, 0, 0, 50, 0, 0, 0, 55]
abbrev dktX0_as_1 : List UInt8 := dkwX0_as_1 ++ dktX0_as_2
def dkwX0_as_0 : List UInt8 := [27]
abbrev dktX0_as_0 : List UInt8 := dkwX0_as_0 ++ dktX0_as_1
theorem dksX0_as_0 : cX0_as.data.toList.drop 0 = dktX0_as_0 := by decide +kernel
theorem dksX0_as_1 : cX0_as.data.toList.drop 1 = dktX0_as_1 := dk_seg dksX0_as_0 1 rfl rfl
theorem dksX0_as_2 : cX0_as.data.toList.drop 36 = dktX0_as_2 := dk_seg dksX0_as_1 35 rfl rfl
theorem dksX0_as_3 : cX0_as.data.toList.drop 60 = dktX0_as_3 := dk_seg dksX0_as_2 24 rfl rfl
theorem dX0_as_0 : decode cX0_as 0 = .ok (.iload_n 1, 1) := dk_27 (dk_at dksX0_as_0 0 rfl rfl)
theorem dX0_as_1 : decode cX0_as 1 = .ok (.tableswitch 60 1 5 #[35, 40, 45, 50, 55], 35) := by decide +kernel
theorem dX0_as_36 : decode cX0_as 36 = .ok (.aload_n 0, 1) := dk_42 (dk_at dksX0_as_2 0 rfl rfl)
theorem dX0_as_37 : decode cX0_as 37 = .ok (.checkcast 19, 3) := dk_192 0 19 (dk_at dksX0_as_2 1 rfl rfl)
theorem dX0_as_40 : decode cX0_as 40 = .ok (.areturn, 1) := dk_176 (dk_at dksX0_as_2 4 rfl rfl)
theorem dX0_as_41 : decode cX0_as 41 = .ok (.aload_n 0, 1) := dk_42 (dk_at dksX0_as_2 5 rfl rfl)
theorem dX0_as_42 : decode cX0_as 42 = .ok (.checkcast 25, 3) := dk_192 0 25 (dk_at dksX0_as_2 6 rfl rfl)
theorem dX0_as_45 : decode cX0_as 45 = .ok (.areturn, 1) := dk_176 (dk_at dksX0_as_2 9 rfl rfl)
theorem dX0_as_46 : decode cX0_as 46 = .ok (.aload_n 0, 1) := dk_42 (dk_at dksX0_as_2 10 rfl rfl)
theorem dX0_as_47 : decode cX0_as 47 = .ok (.checkcast 28, 3) := dk_192 0 28 (dk_at dksX0_as_2 11 rfl rfl)
theorem dX0_as_50 : decode cX0_as 50 = .ok (.areturn, 1) := dk_176 (dk_at dksX0_as_2 14 rfl rfl)
theorem dX0_as_51 : decode cX0_as 51 = .ok (.aload_n 0, 1) := dk_42 (dk_at dksX0_as_2 15 rfl rfl)
theorem dX0_as_52 : decode cX0_as 52 = .ok (.checkcast 31, 3) := dk_192 0 31 (dk_at dksX0_as_2 16 rfl rfl)
theorem dX0_as_55 : decode cX0_as 55 = .ok (.areturn, 1) := dk_176 (dk_at dksX0_as_2 19 rfl rfl)
theorem dX0_as_56 : decode cX0_as 56 = .ok (.aload_n 0, 1) := dk_42 (dk_at dksX0_as_2 20 rfl rfl)
theorem dX0_as_57 : decode cX0_as 57 = .ok (.checkcast 34, 3) := dk_192 0 34 (dk_at dksX0_as_2 21 rfl rfl)
theorem dX0_as_60 : decode cX0_as 60 = .ok (.areturn, 1) := dk_176 (dk_at dksX0_as_3 0 rfl rfl)
theorem dX0_as_61 : decode cX0_as 61 = .ok (.aload_n 0, 1) := dk_42 (dk_at dksX0_as_3 1 rfl rfl)
theorem dX0_as_62 : decode cX0_as 62 = .ok (.areturn, 1) := dk_176 (dk_at dksX0_as_3 2 rfl rfl)
theorem q70 : (Jvm.Cond.initialized "BoatsCalledIn") ∈ lw_all := lw_g (lw_at lw_m1 1 rfl) rfl
theorem q102 : (Jvm.Cond.instanceMethod ({ cls := "BoatsCalledIn", name := "boat", desc := "(III)I" } : Jvm.MethodName)) ∈ lw_all := lw_g (lw_at lw_m1 33 rfl) rfl
theorem q103 : (Jvm.Cond.selects "BoatsCalledIn" ({ cls := "BoatsCalledIn", name := "boat", desc := "(III)I" } : Jvm.MethodName) ({ cls := "BoatsCalledIn", name := "boat", desc := "(III)I" } : Jvm.MethodName)) ∈ lw_all := lw_g (lw_at lw_m1 34 rfl) rfl
theorem q104 : (Jvm.Cond.code ({ cls := "BoatsCalledIn", name := "boat", desc := "(III)I" } : Jvm.MethodName) prog_1_method_6_code (5 : Nat) (Option.some Jvm.ClassFile.FieldType.int)) ∈ lw_all := lw_g (lw_at lw_m1 35 rfl) rfl
theorem q105 : (Jvm.Cond.constantLong "BoatsCalledIn" (40 : Nat) (5 : Int64)) ∈ lw_all := lw_g (lw_at lw_m1 36 rfl) rfl
theorem q106 : (Jvm.Cond.methodLink "BoatsCalledIn" (5 : Nat) ({ cls := "BoatsCalledIn", name := "in", desc := "(JJJ)Z" } : Jvm.MethodName)) ∈ lw_all := lw_g (lw_at lw_m1 37 rfl) rfl
theorem q107 : (Jvm.Cond.static ({ cls := "BoatsCalledIn", name := "in", desc := "(JJJ)Z" } : Jvm.MethodName)) ∈ lw_all := lw_g (lw_at lw_m1 38 rfl) rfl
theorem q108 : (Jvm.Cond.code ({ cls := "BoatsCalledIn", name := "in", desc := "(JJJ)Z" } : Jvm.MethodName) prog_1_method_1_code (6 : Nat) (Option.some Jvm.ClassFile.FieldType.boolean)) ∈ lw_all := lw_g (lw_at lw_m1 39 rfl) rfl
theorem q109 : (Jvm.Cond.methodLink "BoatsCalledIn" (42 : Nat) ({ cls := "BoatsCalledIn", name := "isCell", desc := "(I)Z" } : Jvm.MethodName)) ∈ lw_all := lw_g (lw_at lw_m1 40 rfl) rfl
theorem q110 : (Jvm.Cond.static ({ cls := "BoatsCalledIn", name := "isCell", desc := "(I)Z" } : Jvm.MethodName)) ∈ lw_all := lw_g (lw_at lw_m1 41 rfl) rfl
theorem q111 : (Jvm.Cond.code ({ cls := "BoatsCalledIn", name := "isCell", desc := "(I)Z" } : Jvm.MethodName) prog_1_method_2_code (1 : Nat) (Option.some Jvm.ClassFile.FieldType.boolean)) ∈ lw_all := lw_g (lw_at lw_m1 42 rfl) rfl
theorem q112 : (Jvm.Cond.constantLong "BoatsCalledIn" (3 : Nat) (47 : Int64)) ∈ lw_all := lw_g (lw_at lw_m1 43 rfl) rfl
theorem q113 : (Jvm.Cond.constantLong "BoatsCalledIn" (46 : Nat) (240 : Int64)) ∈ lw_all := lw_g (lw_at lw_m1 44 rfl) rfl
theorem q114 : (Jvm.Cond.methodLink "BoatsCalledIn" (52 : Nat) ({ cls := "BoatsCalledIn", name := "made", desc := "(II)LBoatsCalledIn$Boat;" } : Jvm.MethodName)) ∈ lw_all := lw_g (lw_at lw_m1 45 rfl) rfl
theorem q115 : (Jvm.Cond.static ({ cls := "BoatsCalledIn", name := "made", desc := "(II)LBoatsCalledIn$Boat;" } : Jvm.MethodName)) ∈ lw_all := lw_g (lw_at lw_m1 46 rfl) rfl
theorem q116 : (Jvm.Cond.code ({ cls := "BoatsCalledIn", name := "made", desc := "(II)LBoatsCalledIn$Boat;" } : Jvm.MethodName) prog_1_method_5_code (2 : Nat) (Option.some (Jvm.ClassFile.FieldType.object "BoatsCalledIn$Boat"))) ∈ lw_all := lw_g (lw_at lw_m1 47 rfl) rfl
theorem q117 : (Jvm.Cond.classLink "BoatsCalledIn" (19 : Nat) "BoatsCalledIn$Skiff") ∈ lw_all := lw_g (lw_at lw_m1 48 rfl) rfl
theorem q119 : (Jvm.Cond.methodLink "BoatsCalledIn" (21 : Nat) ({ cls := "BoatsCalledIn$Skiff", name := "<init>", desc := "(I)V" } : Jvm.MethodName)) ∈ lw_all := lw_g (lw_at lw_m1 50 rfl) rfl
theorem q135 : (Jvm.Cond.fieldLink "BoatsCalledIn" (79 : Nat) "BoatsCalledIn$Boat" "number" "I") ∈ lw_all := lw_g (lw_at lw_m1 66 rfl) rfl
theorem q139 : (Jvm.Cond.classLink "BoatsCalledIn" (25 : Nat) "BoatsCalledIn$Punt") ∈ lw_all := lw_g (lw_at lw_m1 70 rfl) rfl
theorem q141 : (Jvm.Cond.methodLink "BoatsCalledIn" (27 : Nat) ({ cls := "BoatsCalledIn$Punt", name := "<init>", desc := "(I)V" } : Jvm.MethodName)) ∈ lw_all := lw_g (lw_at lw_m1 72 rfl) rfl
theorem q147 : (Jvm.Cond.classLink "BoatsCalledIn" (28 : Nat) "BoatsCalledIn$Leaky") ∈ lw_all := lw_g (lw_at lw_m1 78 rfl) rfl
theorem q149 : (Jvm.Cond.methodLink "BoatsCalledIn" (30 : Nat) ({ cls := "BoatsCalledIn$Leaky", name := "<init>", desc := "(I)V" } : Jvm.MethodName)) ∈ lw_all := lw_g (lw_at lw_m1 80 rfl) rfl
theorem q155 : (Jvm.Cond.classLink "BoatsCalledIn" (31 : Nat) "BoatsCalledIn$Deaf") ∈ lw_all := lw_g (lw_at lw_m1 86 rfl) rfl
theorem q157 : (Jvm.Cond.methodLink "BoatsCalledIn" (33 : Nat) ({ cls := "BoatsCalledIn$Deaf", name := "<init>", desc := "(I)V" } : Jvm.MethodName)) ∈ lw_all := lw_g (lw_at lw_m1 88 rfl) rfl
theorem q163 : (Jvm.Cond.classLink "BoatsCalledIn" (34 : Nat) "BoatsCalledIn$Lovers") ∈ lw_all := lw_g (lw_at lw_m1 94 rfl) rfl
theorem q165 : (Jvm.Cond.methodLink "BoatsCalledIn" (36 : Nat) ({ cls := "BoatsCalledIn$Lovers", name := "<init>", desc := "(I)V" } : Jvm.MethodName)) ∈ lw_all := lw_g (lw_at lw_m1 96 rfl) rfl
theorem q171 : (Jvm.Cond.classLink "BoatsCalledIn" (37 : Nat) "BoatsCalledIn$Boat") ∈ lw_all := lw_g (lw_at lw_m1 102 rfl) rfl
theorem q173 : (Jvm.Cond.methodLink "BoatsCalledIn" (39 : Nat) ({ cls := "BoatsCalledIn$Boat", name := "<init>", desc := "(I)V" } : Jvm.MethodName)) ∈ lw_all := lw_g (lw_at lw_m1 104 rfl) rfl
theorem q177 : (Jvm.Cond.instanceMethod ({ cls := "BoatsCalledIn", name := "set", desc := "(III)I" } : Jvm.MethodName)) ∈ lw_all := lw_g (lw_at lw_m1 108 rfl) rfl
theorem q178 : (Jvm.Cond.selects "BoatsCalledIn" ({ cls := "BoatsCalledIn", name := "set", desc := "(III)I" } : Jvm.MethodName) ({ cls := "BoatsCalledIn", name := "set", desc := "(III)I" } : Jvm.MethodName)) ∈ lw_all := lw_g (lw_at lw_m1 109 rfl) rfl
theorem q179 : (Jvm.Cond.code ({ cls := "BoatsCalledIn", name := "set", desc := "(III)I" } : Jvm.MethodName) prog_1_method_10_code (5 : Nat) (Option.some Jvm.ClassFile.FieldType.int)) ∈ lw_all := lw_g (lw_at lw_m1 110 rfl) rfl
theorem q180 : (Jvm.Cond.constantLong "BoatsCalledIn" (82 : Nat) (3 : Int64)) ∈ lw_all := lw_g (lw_at lw_m1 111 rfl) rfl
theorem q181 : (Jvm.Cond.methodLink "BoatsCalledIn" (84 : Nat) ({ cls := "BoatsCalledIn", name := "setBoat", desc := "(III)I" } : Jvm.MethodName)) ∈ lw_all := lw_g (lw_at lw_m1 112 rfl) rfl
theorem q182 : (Jvm.Cond.privateMethod ({ cls := "BoatsCalledIn", name := "setBoat", desc := "(III)I" } : Jvm.MethodName)) ∈ lw_tbl := lw_at lw_m1 113 rfl
theorem q183 : (Jvm.Cond.instanceMethod ({ cls := "BoatsCalledIn", name := "setBoat", desc := "(III)I" } : Jvm.MethodName)) ∈ lw_all := lw_g (lw_at lw_m1 114 rfl) rfl
theorem q184 : (Jvm.Cond.instantiable "BoatsCalledIn" (35 : Nat)) ∈ lw_all := lw_g (lw_at lw_m1 115 rfl) rfl
theorem q185 : (Jvm.Cond.code ({ cls := "BoatsCalledIn", name := "setBoat", desc := "(III)I" } : Jvm.MethodName) prog_1_method_7_code (7 : Nat) (Option.some Jvm.ClassFile.FieldType.int)) ∈ lw_all := lw_g (lw_at lw_m1 116 rfl) rfl
theorem q186 : (Jvm.Cond.methodLink "BoatsCalledIn" (72 : Nat) ({ cls := "BoatsCalledIn", name := "isBoat", desc := "(I)Z" } : Jvm.MethodName)) ∈ lw_all := lw_g (lw_at lw_m1 117 rfl) rfl
theorem q187 : (Jvm.Cond.privateMethod ({ cls := "BoatsCalledIn", name := "isBoat", desc := "(I)Z" } : Jvm.MethodName)) ∈ lw_tbl := lw_at lw_m1 118 rfl
theorem q188 : (Jvm.Cond.instanceMethod ({ cls := "BoatsCalledIn", name := "isBoat", desc := "(I)Z" } : Jvm.MethodName)) ∈ lw_all := lw_g (lw_at lw_m1 119 rfl) rfl
theorem q189 : (Jvm.Cond.code ({ cls := "BoatsCalledIn", name := "isBoat", desc := "(I)Z" } : Jvm.MethodName) prog_1_method_4_code (2 : Nat) (Option.some Jvm.ClassFile.FieldType.boolean)) ∈ lw_all := lw_g (lw_at lw_m1 120 rfl) rfl
theorem q190 : (Jvm.Cond.methodLink "BoatsCalledIn" (75 : Nat) ({ cls := "BoatsCalledIn", name := "toldOf", desc := "(II)I" } : Jvm.MethodName)) ∈ lw_all := lw_g (lw_at lw_m1 121 rfl) rfl
theorem q191 : (Jvm.Cond.privateMethod ({ cls := "BoatsCalledIn", name := "toldOf", desc := "(II)I" } : Jvm.MethodName)) ∈ lw_tbl := lw_at lw_m1 122 rfl
theorem q192 : (Jvm.Cond.instanceMethod ({ cls := "BoatsCalledIn", name := "toldOf", desc := "(II)I" } : Jvm.MethodName)) ∈ lw_all := lw_g (lw_at lw_m1 123 rfl) rfl
theorem q193 : (Jvm.Cond.code ({ cls := "BoatsCalledIn", name := "toldOf", desc := "(II)I" } : Jvm.MethodName) prog_1_method_11_code (3 : Nat) (Option.some Jvm.ClassFile.FieldType.int)) ∈ lw_all := lw_g (lw_at lw_m1 124 rfl) rfl
theorem q194 : (Jvm.Cond.constantLong "BoatsCalledIn" (88 : Nat) (4 : Int64)) ∈ lw_all := lw_g (lw_at lw_m1 125 rfl) rfl
theorem q195 : (Jvm.Cond.constantLong "BoatsCalledIn" (90 : Nat) (8 : Int64)) ∈ lw_all := lw_g (lw_at lw_m1 126 rfl) rfl
theorem q196 : (Jvm.Cond.methodLink "BoatsCalledIn" (92 : Nat) ({ cls := "BoatsCalledIn", name := "lowOf", desc := "(I)I" } : Jvm.MethodName)) ∈ lw_all := lw_g (lw_at lw_m1 127 rfl) rfl
theorem q197 : (Jvm.Cond.static ({ cls := "BoatsCalledIn", name := "lowOf", desc := "(I)I" } : Jvm.MethodName)) ∈ lw_all := lw_g (lw_at lw_m1 128 rfl) rfl
theorem q198 : (Jvm.Cond.code ({ cls := "BoatsCalledIn", name := "lowOf", desc := "(I)I" } : Jvm.MethodName) prog_1_method_8_code (1 : Nat) (Option.some Jvm.ClassFile.FieldType.int)) ∈ lw_all := lw_g (lw_at lw_m1 129 rfl) rfl
theorem q199 : (Jvm.Cond.methodLink "BoatsCalledIn" (95 : Nat) ({ cls := "BoatsCalledIn", name := "highOf", desc := "(I)I" } : Jvm.MethodName)) ∈ lw_all := lw_g (lw_at lw_m1 130 rfl) rfl
theorem q200 : (Jvm.Cond.static ({ cls := "BoatsCalledIn", name := "highOf", desc := "(I)I" } : Jvm.MethodName)) ∈ lw_all := lw_g (lw_at lw_m1 131 rfl) rfl
theorem q201 : (Jvm.Cond.code ({ cls := "BoatsCalledIn", name := "highOf", desc := "(I)I" } : Jvm.MethodName) prog_1_method_9_code (1 : Nat) (Option.some Jvm.ClassFile.FieldType.int)) ∈ lw_all := lw_g (lw_at lw_m1 132 rfl) rfl
theorem q203 : (Jvm.Cond.instanceMethod ({ cls := "BoatsCalledIn", name := "told", desc := "(II)I" } : Jvm.MethodName)) ∈ lw_all := lw_g (lw_at lw_m1 134 rfl) rfl
theorem q204 : (Jvm.Cond.selects "BoatsCalledIn" ({ cls := "BoatsCalledIn", name := "told", desc := "(II)I" } : Jvm.MethodName) ({ cls := "BoatsCalledIn", name := "told", desc := "(II)I" } : Jvm.MethodName)) ∈ lw_all := lw_g (lw_at lw_m1 135 rfl) rfl
theorem q205 : (Jvm.Cond.code ({ cls := "BoatsCalledIn", name := "told", desc := "(II)I" } : Jvm.MethodName) prog_1_method_12_code (3 : Nat) (Option.some Jvm.ClassFile.FieldType.int)) ∈ lw_all := lw_g (lw_at lw_m1 136 rfl) rfl
theorem q206 : (Jvm.Cond.constantLong "BoatsCalledIn" (101 : Nat) (10 : Int64)) ∈ lw_all := lw_g (lw_at lw_m1 137 rfl) rfl
theorem q207 : (Jvm.Cond.methodLink "BoatsCalledIn" (103 : Nat) ({ cls := "BoatsCalledIn$Boat", name := "kind", desc := "()I" } : Jvm.MethodName)) ∈ lw_all := lw_g (lw_at lw_m1 138 rfl) rfl
theorem q232 : (Jvm.Cond.methodLink "BoatsCalledIn" (107 : Nat) ({ cls := "BoatsCalledIn$Boat", name := "heldRows", desc := "(I)I" } : Jvm.MethodName)) ∈ lw_all := lw_g (lw_at lw_m1 163 rfl) rfl
theorem q267 : (Jvm.Cond.methodLink "BoatsCalledIn" (110 : Nat) ({ cls := "BoatsCalledIn$Boat", name := "heldHears", desc := "(I)I" } : Jvm.MethodName)) ∈ lw_all := lw_g (lw_at lw_m1 198 rfl) rfl
theorem q299 : (Jvm.Cond.methodLink "BoatsCalledIn" (113 : Nat) ({ cls := "BoatsCalledIn", name := "wouldCome", desc := "(I)Z" } : Jvm.MethodName)) ∈ lw_all := lw_g (lw_at lw_m1 230 rfl) rfl
theorem q300 : (Jvm.Cond.privateMethod ({ cls := "BoatsCalledIn", name := "wouldCome", desc := "(I)Z" } : Jvm.MethodName)) ∈ lw_tbl := lw_at lw_m1 231 rfl
theorem q301 : (Jvm.Cond.instanceMethod ({ cls := "BoatsCalledIn", name := "wouldCome", desc := "(I)Z" } : Jvm.MethodName)) ∈ lw_all := lw_g (lw_at lw_m1 232 rfl) rfl
theorem q302 : (Jvm.Cond.code ({ cls := "BoatsCalledIn", name := "wouldCome", desc := "(I)Z" } : Jvm.MethodName) prog_1_method_40_code (2 : Nat) (Option.some Jvm.ClassFile.FieldType.boolean)) ∈ lw_all := lw_g (lw_at lw_m1 233 rfl) rfl
theorem q303 : (Jvm.Cond.methodLink "BoatsCalledIn" (348 : Nat) ({ cls := "BoatsCalledIn", name := "far", desc := "(II)I" } : Jvm.MethodName)) ∈ lw_all := lw_g (lw_at lw_m1 234 rfl) rfl
theorem q304 : (Jvm.Cond.static ({ cls := "BoatsCalledIn", name := "far", desc := "(II)I" } : Jvm.MethodName)) ∈ lw_all := lw_g (lw_at lw_m1 235 rfl) rfl
theorem q305 : (Jvm.Cond.code ({ cls := "BoatsCalledIn", name := "far", desc := "(II)I" } : Jvm.MethodName) prog_1_method_3_code (2 : Nat) (Option.some Jvm.ClassFile.FieldType.int)) ∈ lw_all := lw_g (lw_at lw_m1 236 rfl) rfl
theorem q306 : (Jvm.Cond.methodLink "BoatsCalledIn" (9 : Nat) ({ cls := "java/lang/Math", name := "abs", desc := "(I)I" } : Jvm.MethodName)) ∈ lw_all := lw_g (lw_at lw_m1 237 rfl) rfl
theorem q309 : (Jvm.Cond.methodLink "BoatsCalledIn" (350 : Nat) ({ cls := "BoatsCalledIn", name := "asks", desc := "(II)I" } : Jvm.MethodName)) ∈ lw_all := lw_g (lw_at lw_m2 0 rfl) rfl
theorem q310 : (Jvm.Cond.privateMethod ({ cls := "BoatsCalledIn", name := "asks", desc := "(II)I" } : Jvm.MethodName)) ∈ lw_tbl := lw_at lw_m2 1 rfl
theorem q311 : (Jvm.Cond.instanceMethod ({ cls := "BoatsCalledIn", name := "asks", desc := "(II)I" } : Jvm.MethodName)) ∈ lw_all := lw_g (lw_at lw_m2 2 rfl) rfl
theorem q312 : (Jvm.Cond.code ({ cls := "BoatsCalledIn", name := "asks", desc := "(II)I" } : Jvm.MethodName) prog_1_method_39_code (4 : Nat) (Option.some Jvm.ClassFile.FieldType.int)) ∈ lw_all := lw_g (lw_at lw_m2 3 rfl) rfl
theorem q313 : (Jvm.Cond.methodLink "BoatsCalledIn" (339 : Nat) ({ cls := "BoatsCalledIn$Node", name := "worth", desc := "()I" } : Jvm.MethodName)) ∈ lw_all := lw_g (lw_at lw_m2 4 rfl) rfl
theorem q321 : (Jvm.Cond.privateMethod ({ cls := "BoatsCalledIn", name := "due", desc := "(I)I" } : Jvm.MethodName)) ∈ lw_tbl := lw_at lw_m2 12 rfl
theorem q322 : (Jvm.Cond.instanceMethod ({ cls := "BoatsCalledIn", name := "due", desc := "(I)I" } : Jvm.MethodName)) ∈ lw_all := lw_g (lw_at lw_m2 13 rfl) rfl
theorem q323 : (Jvm.Cond.code ({ cls := "BoatsCalledIn", name := "due", desc := "(I)I" } : Jvm.MethodName) prog_1_method_37_code (2 : Nat) (Option.some Jvm.ClassFile.FieldType.int)) ∈ lw_all := lw_g (lw_at lw_m2 14 rfl) rfl
theorem q325 : (Jvm.Cond.privateMethod ({ cls := "BoatsCalledIn", name := "isHidden", desc := "(I)Z" } : Jvm.MethodName)) ∈ lw_tbl := lw_at lw_m2 16 rfl
theorem q326 : (Jvm.Cond.instanceMethod ({ cls := "BoatsCalledIn", name := "isHidden", desc := "(I)Z" } : Jvm.MethodName)) ∈ lw_all := lw_g (lw_at lw_m2 17 rfl) rfl
theorem q327 : (Jvm.Cond.code ({ cls := "BoatsCalledIn", name := "isHidden", desc := "(I)Z" } : Jvm.MethodName) prog_1_method_38_code (2 : Nat) (Option.some Jvm.ClassFile.FieldType.boolean)) ∈ lw_all := lw_g (lw_at lw_m2 18 rfl) rfl
theorem q339 : (Jvm.Cond.methodLink "BoatsCalledIn" (342 : Nat) ({ cls := "java/lang/Math", name := "min", desc := "(II)I" } : Jvm.MethodName)) ∈ lw_all := lw_g (lw_at lw_m2 30 rfl) rfl
theorem q342 : (Jvm.Cond.methodLink "BoatsCalledIn" (345 : Nat) ({ cls := "java/lang/Math", name := "max", desc := "(II)I" } : Jvm.MethodName)) ∈ lw_all := lw_g (lw_at lw_m2 33 rfl) rfl
theorem q343 : (Jvm.Cond.methodLink "BoatsCalledIn" (119 : Nat) ({ cls := "BoatsCalledIn", name := "owesAt", desc := "(II)I" } : Jvm.MethodName)) ∈ lw_all := lw_g (lw_at lw_m2 34 rfl) rfl
theorem q344 : (Jvm.Cond.privateMethod ({ cls := "BoatsCalledIn", name := "owesAt", desc := "(II)I" } : Jvm.MethodName)) ∈ lw_tbl := lw_at lw_m2 35 rfl
theorem q345 : (Jvm.Cond.instanceMethod ({ cls := "BoatsCalledIn", name := "owesAt", desc := "(II)I" } : Jvm.MethodName)) ∈ lw_all := lw_g (lw_at lw_m2 36 rfl) rfl
theorem q346 : (Jvm.Cond.codeWith ({ cls := "BoatsCalledIn", name := "owesAt", desc := "(II)I" } : Jvm.MethodName) prog_1_method_42_code (6 : Nat) (Option.some Jvm.ClassFile.FieldType.int) [((5 : Nat), (38 : Nat), (46 : Nat), (0 : Nat)), ((46 : Nat), (48 : Nat), (46 : Nat), (0 : Nat))]) ∈ lw_all := lw_g (lw_at lw_m2 37 rfl) rfl
theorem q347 : (Jvm.Cond.methodLink "BoatsCalledIn" (353 : Nat) ({ cls := "BoatsCalledIn", name := "due", desc := "(I)I" } : Jvm.MethodName)) ∈ lw_all := lw_g (lw_at lw_m2 38 rfl) rfl
theorem q348 : (Jvm.Cond.methodLink "BoatsCalledIn" (356 : Nat) ({ cls := "BoatsCalledIn$Boat", name := "heldOwes", desc := "(II)I" } : Jvm.MethodName)) ∈ lw_all := lw_g (lw_at lw_m2 39 rfl) rfl
theorem q380 : (Jvm.Cond.instanceMethod ({ cls := "BoatsCalledIn", name := "feed", desc := "(I)I" } : Jvm.MethodName)) ∈ lw_all := lw_g (lw_at lw_m2 71 rfl) rfl
theorem q381 : (Jvm.Cond.selects "BoatsCalledIn" ({ cls := "BoatsCalledIn", name := "feed", desc := "(I)I" } : Jvm.MethodName) ({ cls := "BoatsCalledIn", name := "feed", desc := "(I)I" } : Jvm.MethodName)) ∈ lw_all := lw_g (lw_at lw_m2 72 rfl) rfl
theorem q382 : (Jvm.Cond.code ({ cls := "BoatsCalledIn", name := "feed", desc := "(I)I" } : Jvm.MethodName) prog_1_method_32_code (2 : Nat) (Option.some Jvm.ClassFile.FieldType.int)) ∈ lw_all := lw_g (lw_at lw_m2 73 rfl) rfl
theorem q383 : (Jvm.Cond.constantLong "BoatsCalledIn" (266 : Nat) (255 : Int64)) ∈ lw_all := lw_g (lw_at lw_m2 74 rfl) rfl
theorem q385 : (Jvm.Cond.instanceMethod ({ cls := "BoatsCalledIn", name := "text", desc := "()I" } : Jvm.MethodName)) ∈ lw_all := lw_g (lw_at lw_m2 76 rfl) rfl
theorem q386 : (Jvm.Cond.selects "BoatsCalledIn" ({ cls := "BoatsCalledIn", name := "text", desc := "()I" } : Jvm.MethodName) ({ cls := "BoatsCalledIn", name := "text", desc := "()I" } : Jvm.MethodName)) ∈ lw_all := lw_g (lw_at lw_m2 77 rfl) rfl
theorem q387 : (Jvm.Cond.code ({ cls := "BoatsCalledIn", name := "text", desc := "()I" } : Jvm.MethodName) prog_1_method_33_code (1 : Nat) (Option.some Jvm.ClassFile.FieldType.int)) ∈ lw_all := lw_g (lw_at lw_m2 78 rfl) rfl
theorem q388 : (Jvm.Cond.methodLink "BoatsCalledIn" (263 : Nat) ({ cls := "BoatsCalledIn", name := "newText", desc := "()I" } : Jvm.MethodName)) ∈ lw_all := lw_g (lw_at lw_m2 79 rfl) rfl
theorem q389 : (Jvm.Cond.privateMethod ({ cls := "BoatsCalledIn", name := "newText", desc := "()I" } : Jvm.MethodName)) ∈ lw_tbl := lw_at lw_m2 80 rfl
theorem q390 : (Jvm.Cond.instanceMethod ({ cls := "BoatsCalledIn", name := "newText", desc := "()I" } : Jvm.MethodName)) ∈ lw_all := lw_g (lw_at lw_m2 81 rfl) rfl
theorem q391 : (Jvm.Cond.codeWith ({ cls := "BoatsCalledIn", name := "newText", desc := "()I" } : Jvm.MethodName) prog_1_method_30_code (3 : Nat) (Option.some Jvm.ClassFile.FieldType.int) [((28 : Nat), (83 : Nat), (86 : Nat), (254 : Nat))]) ∈ lw_all := lw_g (lw_at lw_m2 82 rfl) rfl
theorem q392 : (Jvm.Cond.classLink "BoatsCalledIn" (254 : Nat) "BoatsCalledIn$Faulty") ∈ lw_all := lw_g (lw_at lw_m2 83 rfl) rfl
theorem q393 : (Jvm.Cond.classLink "BoatsCalledIn" (252 : Nat) "BoatsCalledIn$Node") ∈ lw_all := lw_g (lw_at lw_m2 84 rfl) rfl
theorem q395 : (Jvm.Cond.methodLink "BoatsCalledIn" (193 : Nat) ({ cls := "BoatsCalledIn", name := "next", desc := "()V" } : Jvm.MethodName)) ∈ lw_all := lw_g (lw_at lw_m2 86 rfl) rfl
theorem q396 : (Jvm.Cond.privateMethod ({ cls := "BoatsCalledIn", name := "next", desc := "()V" } : Jvm.MethodName)) ∈ lw_tbl := lw_at lw_m2 87 rfl
theorem q397 : (Jvm.Cond.instanceMethod ({ cls := "BoatsCalledIn", name := "next", desc := "()V" } : Jvm.MethodName)) ∈ lw_all := lw_g (lw_at lw_m2 88 rfl) rfl
theorem q398 : (Jvm.Cond.code ({ cls := "BoatsCalledIn", name := "next", desc := "()V" } : Jvm.MethodName) prog_1_method_16_code (2 : Nat) (Option.none : Option Jvm.ClassFile.FieldType)) ∈ lw_all := lw_g (lw_at lw_m2 89 rfl) rfl
theorem q399 : (Jvm.Cond.methodLink "BoatsCalledIn" (140 : Nat) ({ cls := "BoatsCalledIn", name := "byteAt", desc := "(I)I" } : Jvm.MethodName)) ∈ lw_all := lw_g (lw_at lw_m2 90 rfl) rfl
theorem q400 : (Jvm.Cond.privateMethod ({ cls := "BoatsCalledIn", name := "byteAt", desc := "(I)I" } : Jvm.MethodName)) ∈ lw_tbl := lw_at lw_m2 91 rfl
theorem q401 : (Jvm.Cond.instanceMethod ({ cls := "BoatsCalledIn", name := "byteAt", desc := "(I)I" } : Jvm.MethodName)) ∈ lw_all := lw_g (lw_at lw_m2 92 rfl) rfl
theorem q402 : (Jvm.Cond.code ({ cls := "BoatsCalledIn", name := "byteAt", desc := "(I)I" } : Jvm.MethodName) prog_1_method_13_code (2 : Nat) (Option.some Jvm.ClassFile.FieldType.int)) ∈ lw_all := lw_g (lw_at lw_m2 93 rfl) rfl
theorem q403 : (Jvm.Cond.methodLink "BoatsCalledIn" (149 : Nat) ({ cls := "BoatsCalledIn", name := "isLetter", desc := "(I)Z" } : Jvm.MethodName)) ∈ lw_all := lw_g (lw_at lw_m2 94 rfl) rfl
theorem q404 : (Jvm.Cond.static ({ cls := "BoatsCalledIn", name := "isLetter", desc := "(I)Z" } : Jvm.MethodName)) ∈ lw_all := lw_g (lw_at lw_m2 95 rfl) rfl
theorem q405 : (Jvm.Cond.code ({ cls := "BoatsCalledIn", name := "isLetter", desc := "(I)Z" } : Jvm.MethodName) prog_1_method_14_code (1 : Nat) (Option.some Jvm.ClassFile.FieldType.boolean)) ∈ lw_all := lw_g (lw_at lw_m2 96 rfl) rfl
theorem q406 : (Jvm.Cond.constantLong "BoatsCalledIn" (129 : Nat) (97 : Int64)) ∈ lw_all := lw_g (lw_at lw_m2 97 rfl) rfl
theorem q407 : (Jvm.Cond.constantLong "BoatsCalledIn" (131 : Nat) (122 : Int64)) ∈ lw_all := lw_g (lw_at lw_m2 98 rfl) rfl
theorem q408 : (Jvm.Cond.methodLink "BoatsCalledIn" (152 : Nat) ({ cls := "BoatsCalledIn", name := "word", desc := "()V" } : Jvm.MethodName)) ∈ lw_all := lw_g (lw_at lw_m2 99 rfl) rfl
theorem q409 : (Jvm.Cond.privateMethod ({ cls := "BoatsCalledIn", name := "word", desc := "()V" } : Jvm.MethodName)) ∈ lw_tbl := lw_at lw_m2 100 rfl
theorem q410 : (Jvm.Cond.instanceMethod ({ cls := "BoatsCalledIn", name := "word", desc := "()V" } : Jvm.MethodName)) ∈ lw_all := lw_g (lw_at lw_m2 101 rfl) rfl
theorem q411 : (Jvm.Cond.code ({ cls := "BoatsCalledIn", name := "word", desc := "()V" } : Jvm.MethodName) prog_1_method_18_code (2 : Nat) (Option.none : Option Jvm.ClassFile.FieldType)) ∈ lw_all := lw_g (lw_at lw_m2 102 rfl) rfl
theorem q412 : (Jvm.Cond.methodLink "BoatsCalledIn" (186 : Nat) ({ cls := "BoatsCalledIn", name := "placeIn", desc := "([Ljava/lang/String;)I" } : Jvm.MethodName)) ∈ lw_all := lw_g (lw_at lw_m2 103 rfl) rfl
theorem q413 : (Jvm.Cond.privateMethod ({ cls := "BoatsCalledIn", name := "placeIn", desc := "([Ljava/lang/String;)I" } : Jvm.MethodName)) ∈ lw_tbl := lw_at lw_m2 104 rfl
theorem q414 : (Jvm.Cond.instanceMethod ({ cls := "BoatsCalledIn", name := "placeIn", desc := "([Ljava/lang/String;)I" } : Jvm.MethodName)) ∈ lw_all := lw_g (lw_at lw_m2 105 rfl) rfl
theorem q415 : (Jvm.Cond.code ({ cls := "BoatsCalledIn", name := "placeIn", desc := "([Ljava/lang/String;)I" } : Jvm.MethodName) prog_1_method_17_code (5 : Nat) (Option.some Jvm.ClassFile.FieldType.int)) ∈ lw_all := lw_g (lw_at lw_m2 106 rfl) rfl
theorem q416 : (Jvm.Cond.methodLink "BoatsCalledIn" (176 : Nat) ({ cls := "java/lang/String", name := "length", desc := "()I" } : Jvm.MethodName)) ∈ lw_all := lw_g (lw_at lw_m2 107 rfl) rfl
theorem q426 : (Jvm.Cond.methodLink "BoatsCalledIn" (178 : Nat) ({ cls := "java/lang/String", name := "charAt", desc := "(I)C" } : Jvm.MethodName)) ∈ lw_all := lw_g (lw_at lw_m2 117 rfl) rfl
theorem q464 : (Jvm.Cond.methodLink "BoatsCalledIn" (156 : Nat) ({ cls := "BoatsCalledIn", name := "isDigit", desc := "(I)Z" } : Jvm.MethodName)) ∈ lw_all := lw_g (lw_at lw_m2 155 rfl) rfl
theorem q465 : (Jvm.Cond.static ({ cls := "BoatsCalledIn", name := "isDigit", desc := "(I)Z" } : Jvm.MethodName)) ∈ lw_all := lw_g (lw_at lw_m2 156 rfl) rfl
theorem q466 : (Jvm.Cond.code ({ cls := "BoatsCalledIn", name := "isDigit", desc := "(I)Z" } : Jvm.MethodName) prog_1_method_15_code (1 : Nat) (Option.some Jvm.ClassFile.FieldType.boolean)) ∈ lw_all := lw_g (lw_at lw_m2 157 rfl) rfl
theorem q467 : (Jvm.Cond.constantLong "BoatsCalledIn" (133 : Nat) (48 : Int64)) ∈ lw_all := lw_g (lw_at lw_m2 158 rfl) rfl
theorem q468 : (Jvm.Cond.constantLong "BoatsCalledIn" (135 : Nat) (57 : Int64)) ∈ lw_all := lw_g (lw_at lw_m2 159 rfl) rfl
theorem q469 : (Jvm.Cond.methodLink "BoatsCalledIn" (159 : Nat) ({ cls := "BoatsCalledIn", name := "digits", desc := "()V" } : Jvm.MethodName)) ∈ lw_all := lw_g (lw_at lw_m2 160 rfl) rfl
theorem q470 : (Jvm.Cond.privateMethod ({ cls := "BoatsCalledIn", name := "digits", desc := "()V" } : Jvm.MethodName)) ∈ lw_tbl := lw_at lw_m2 161 rfl
theorem q471 : (Jvm.Cond.instanceMethod ({ cls := "BoatsCalledIn", name := "digits", desc := "()V" } : Jvm.MethodName)) ∈ lw_all := lw_g (lw_at lw_m2 162 rfl) rfl
theorem q472 : (Jvm.Cond.code ({ cls := "BoatsCalledIn", name := "digits", desc := "()V" } : Jvm.MethodName) prog_1_method_19_code (1 : Nat) (Option.none : Option Jvm.ClassFile.FieldType)) ∈ lw_all := lw_g (lw_at lw_m2 163 rfl) rfl
theorem q473 : (Jvm.Cond.stringRef "BoatsCalledIn" (165 : Nat) "();+-*<=") ∈ lw_tbl := lw_at lw_m2 164 rfl
theorem q474 : (Jvm.Cond.methodLink "BoatsCalledIn" (167 : Nat) ({ cls := "java/lang/String", name := "indexOf", desc := "(I)I" } : Jvm.MethodName)) ∈ lw_all := lw_g (lw_at lw_m2 165 rfl) rfl
theorem q529 : (Jvm.Cond.methodLink "BoatsCalledIn" (207 : Nat) ({ cls := "BoatsCalledIn", name := "isKey", desc := "(I)Z" } : Jvm.MethodName)) ∈ lw_all := lw_g (lw_at lw_m2 220 rfl) rfl
theorem q530 : (Jvm.Cond.privateMethod ({ cls := "BoatsCalledIn", name := "isKey", desc := "(I)Z" } : Jvm.MethodName)) ∈ lw_tbl := lw_at lw_m2 221 rfl
theorem q531 : (Jvm.Cond.instanceMethod ({ cls := "BoatsCalledIn", name := "isKey", desc := "(I)Z" } : Jvm.MethodName)) ∈ lw_all := lw_g (lw_at lw_m2 222 rfl) rfl
theorem q532 : (Jvm.Cond.code ({ cls := "BoatsCalledIn", name := "isKey", desc := "(I)Z" } : Jvm.MethodName) prog_1_method_21_code (2 : Nat) (Option.some Jvm.ClassFile.FieldType.boolean)) ∈ lw_all := lw_g (lw_at lw_m2 223 rfl) rfl
theorem q533 : (Jvm.Cond.methodLink "BoatsCalledIn" (199 : Nat) ({ cls := "BoatsCalledIn", name := "need", desc := "(Z)V" } : Jvm.MethodName)) ∈ lw_all := lw_g (lw_at lw_m2 224 rfl) rfl
theorem q534 : (Jvm.Cond.privateMethod ({ cls := "BoatsCalledIn", name := "need", desc := "(Z)V" } : Jvm.MethodName)) ∈ lw_tbl := lw_at lw_m2 225 rfl
theorem q535 : (Jvm.Cond.instanceMethod ({ cls := "BoatsCalledIn", name := "need", desc := "(Z)V" } : Jvm.MethodName)) ∈ lw_all := lw_g (lw_at lw_m2 226 rfl) rfl
theorem q536 : (Jvm.Cond.code ({ cls := "BoatsCalledIn", name := "need", desc := "(Z)V" } : Jvm.MethodName) prog_1_method_22_code (2 : Nat) (Option.none : Option Jvm.ClassFile.FieldType)) ∈ lw_all := lw_g (lw_at lw_m2 227 rfl) rfl
theorem q537 : (Jvm.Cond.methodLink "BoatsCalledIn" (246 : Nat) ({ cls := "BoatsCalledIn", name := "either", desc := "()LBoatsCalledIn$Node;" } : Jvm.MethodName)) ∈ lw_all := lw_g (lw_at lw_m2 228 rfl) rfl
theorem q538 : (Jvm.Cond.privateMethod ({ cls := "BoatsCalledIn", name := "either", desc := "()LBoatsCalledIn$Node;" } : Jvm.MethodName)) ∈ lw_tbl := lw_at lw_m2 229 rfl
theorem q539 : (Jvm.Cond.instanceMethod ({ cls := "BoatsCalledIn", name := "either", desc := "()LBoatsCalledIn$Node;" } : Jvm.MethodName)) ∈ lw_all := lw_g (lw_at lw_m2 230 rfl) rfl
theorem q540 : (Jvm.Cond.code ({ cls := "BoatsCalledIn", name := "either", desc := "()LBoatsCalledIn$Node;" } : Jvm.MethodName) prog_1_method_24_code (2 : Nat) (Option.some (Jvm.ClassFile.FieldType.object "BoatsCalledIn$Node"))) ∈ lw_all := lw_g (lw_at lw_m2 231 rfl) rfl
theorem q541 : (Jvm.Cond.methodLink "BoatsCalledIn" (203 : Nat) ({ cls := "BoatsCalledIn", name := "both", desc := "()LBoatsCalledIn$Node;" } : Jvm.MethodName)) ∈ lw_all := lw_g (lw_at lw_m2 232 rfl) rfl
theorem q542 : (Jvm.Cond.privateMethod ({ cls := "BoatsCalledIn", name := "both", desc := "()LBoatsCalledIn$Node;" } : Jvm.MethodName)) ∈ lw_tbl := lw_at lw_m2 233 rfl
theorem q543 : (Jvm.Cond.instanceMethod ({ cls := "BoatsCalledIn", name := "both", desc := "()LBoatsCalledIn$Node;" } : Jvm.MethodName)) ∈ lw_all := lw_g (lw_at lw_m2 234 rfl) rfl
theorem q544 : (Jvm.Cond.code ({ cls := "BoatsCalledIn", name := "both", desc := "()LBoatsCalledIn$Node;" } : Jvm.MethodName) prog_1_method_25_code (2 : Nat) (Option.some (Jvm.ClassFile.FieldType.object "BoatsCalledIn$Node"))) ∈ lw_all := lw_g (lw_at lw_m2 235 rfl) rfl
theorem q545 : (Jvm.Cond.methodLink "BoatsCalledIn" (215 : Nat) ({ cls := "BoatsCalledIn", name := "not", desc := "()LBoatsCalledIn$Node;" } : Jvm.MethodName)) ∈ lw_all := lw_g (lw_at lw_m2 236 rfl) rfl
theorem q546 : (Jvm.Cond.privateMethod ({ cls := "BoatsCalledIn", name := "not", desc := "()LBoatsCalledIn$Node;" } : Jvm.MethodName)) ∈ lw_tbl := lw_at lw_m2 237 rfl
theorem q547 : (Jvm.Cond.instanceMethod ({ cls := "BoatsCalledIn", name := "not", desc := "()LBoatsCalledIn$Node;" } : Jvm.MethodName)) ∈ lw_all := lw_g (lw_at lw_m2 238 rfl) rfl
theorem q548 : (Jvm.Cond.code ({ cls := "BoatsCalledIn", name := "not", desc := "()LBoatsCalledIn$Node;" } : Jvm.MethodName) prog_1_method_26_code (3 : Nat) (Option.some (Jvm.ClassFile.FieldType.object "BoatsCalledIn$Node"))) ∈ lw_all := lw_g (lw_at lw_m2 239 rfl) rfl
theorem q549 : (Jvm.Cond.methodLink "BoatsCalledIn" (218 : Nat) ({ cls := "BoatsCalledIn", name := "openOne", desc := "()V" } : Jvm.MethodName)) ∈ lw_all := lw_g (lw_at lw_m3 0 rfl) rfl
theorem q550 : (Jvm.Cond.privateMethod ({ cls := "BoatsCalledIn", name := "openOne", desc := "()V" } : Jvm.MethodName)) ∈ lw_tbl := lw_at lw_m3 1 rfl
theorem q551 : (Jvm.Cond.instanceMethod ({ cls := "BoatsCalledIn", name := "openOne", desc := "()V" } : Jvm.MethodName)) ∈ lw_all := lw_g (lw_at lw_m3 2 rfl) rfl
theorem q552 : (Jvm.Cond.code ({ cls := "BoatsCalledIn", name := "openOne", desc := "()V" } : Jvm.MethodName) prog_1_method_23_code (1 : Nat) (Option.none : Option Jvm.ClassFile.FieldType)) ∈ lw_all := lw_g (lw_at lw_m3 3 rfl) rfl
theorem q553 : (Jvm.Cond.classLink "BoatsCalledIn" (221 : Nat) "BoatsCalledIn$Turned") ∈ lw_all := lw_g (lw_at lw_m3 4 rfl) rfl
theorem q555 : (Jvm.Cond.methodLink "BoatsCalledIn" (223 : Nat) ({ cls := "BoatsCalledIn$Turned", name := "<init>", desc := "(LBoatsCalledIn$Node;Z)V" } : Jvm.MethodName)) ∈ lw_all := lw_g (lw_at lw_m3 6 rfl) rfl
theorem q570 : (Jvm.Cond.methodLink "BoatsCalledIn" (226 : Nat) ({ cls := "BoatsCalledIn", name := "plus", desc := "()LBoatsCalledIn$Node;" } : Jvm.MethodName)) ∈ lw_all := lw_g (lw_at lw_m3 21 rfl) rfl
theorem q571 : (Jvm.Cond.privateMethod ({ cls := "BoatsCalledIn", name := "plus", desc := "()LBoatsCalledIn$Node;" } : Jvm.MethodName)) ∈ lw_tbl := lw_at lw_m3 22 rfl
theorem q572 : (Jvm.Cond.instanceMethod ({ cls := "BoatsCalledIn", name := "plus", desc := "()LBoatsCalledIn$Node;" } : Jvm.MethodName)) ∈ lw_all := lw_g (lw_at lw_m3 23 rfl) rfl
theorem q573 : (Jvm.Cond.code ({ cls := "BoatsCalledIn", name := "plus", desc := "()LBoatsCalledIn$Node;" } : Jvm.MethodName) prog_1_method_27_code (3 : Nat) (Option.some (Jvm.ClassFile.FieldType.object "BoatsCalledIn$Node"))) ∈ lw_all := lw_g (lw_at lw_m3 24 rfl) rfl
theorem q574 : (Jvm.Cond.methodLink "BoatsCalledIn" (232 : Nat) ({ cls := "BoatsCalledIn", name := "times", desc := "()LBoatsCalledIn$Node;" } : Jvm.MethodName)) ∈ lw_all := lw_g (lw_at lw_m3 25 rfl) rfl
theorem q575 : (Jvm.Cond.privateMethod ({ cls := "BoatsCalledIn", name := "times", desc := "()LBoatsCalledIn$Node;" } : Jvm.MethodName)) ∈ lw_tbl := lw_at lw_m3 26 rfl
theorem q576 : (Jvm.Cond.instanceMethod ({ cls := "BoatsCalledIn", name := "times", desc := "()LBoatsCalledIn$Node;" } : Jvm.MethodName)) ∈ lw_all := lw_g (lw_at lw_m3 27 rfl) rfl
theorem q577 : (Jvm.Cond.code ({ cls := "BoatsCalledIn", name := "times", desc := "()LBoatsCalledIn$Node;" } : Jvm.MethodName) prog_1_method_28_code (2 : Nat) (Option.some (Jvm.ClassFile.FieldType.object "BoatsCalledIn$Node"))) ∈ lw_all := lw_g (lw_at lw_m3 28 rfl) rfl
theorem q578 : (Jvm.Cond.methodLink "BoatsCalledIn" (235 : Nat) ({ cls := "BoatsCalledIn", name := "one", desc := "()LBoatsCalledIn$Node;" } : Jvm.MethodName)) ∈ lw_all := lw_g (lw_at lw_m3 29 rfl) rfl
theorem q579 : (Jvm.Cond.privateMethod ({ cls := "BoatsCalledIn", name := "one", desc := "()LBoatsCalledIn$Node;" } : Jvm.MethodName)) ∈ lw_tbl := lw_at lw_m3 30 rfl
theorem q580 : (Jvm.Cond.instanceMethod ({ cls := "BoatsCalledIn", name := "one", desc := "()LBoatsCalledIn$Node;" } : Jvm.MethodName)) ∈ lw_all := lw_g (lw_at lw_m3 31 rfl) rfl
theorem q581 : (Jvm.Cond.code ({ cls := "BoatsCalledIn", name := "one", desc := "()LBoatsCalledIn$Node;" } : Jvm.MethodName) prog_1_method_29_code (3 : Nat) (Option.some (Jvm.ClassFile.FieldType.object "BoatsCalledIn$Node"))) ∈ lw_all := lw_g (lw_at lw_m3 32 rfl) rfl
theorem q582 : (Jvm.Cond.classLink "BoatsCalledIn" (238 : Nat) "BoatsCalledIn$Number") ∈ lw_all := lw_g (lw_at lw_m3 33 rfl) rfl
theorem q584 : (Jvm.Cond.methodLink "BoatsCalledIn" (240 : Nat) ({ cls := "BoatsCalledIn$Number", name := "<init>", desc := "(I)V" } : Jvm.MethodName)) ∈ lw_all := lw_g (lw_at lw_m3 35 rfl) rfl
theorem q592 : (Jvm.Cond.classLink "BoatsCalledIn" (241 : Nat) "BoatsCalledIn$Name") ∈ lw_all := lw_g (lw_at lw_m3 43 rfl) rfl
theorem q594 : (Jvm.Cond.methodLink "BoatsCalledIn" (243 : Nat) ({ cls := "BoatsCalledIn$Name", name := "<init>", desc := "(LBoatsCalledIn;I)V" } : Jvm.MethodName)) ∈ lw_all := lw_g (lw_at lw_m3 45 rfl) rfl
theorem q605 : (Jvm.Cond.methodLink "BoatsCalledIn" (229 : Nat) ({ cls := "BoatsCalledIn", name := "isSign", desc := "(I)Z" } : Jvm.MethodName)) ∈ lw_all := lw_g (lw_at lw_m3 56 rfl) rfl
theorem q606 : (Jvm.Cond.privateMethod ({ cls := "BoatsCalledIn", name := "isSign", desc := "(I)Z" } : Jvm.MethodName)) ∈ lw_tbl := lw_at lw_m3 57 rfl
theorem q607 : (Jvm.Cond.instanceMethod ({ cls := "BoatsCalledIn", name := "isSign", desc := "(I)Z" } : Jvm.MethodName)) ∈ lw_all := lw_g (lw_at lw_m3 58 rfl) rfl
theorem q608 : (Jvm.Cond.code ({ cls := "BoatsCalledIn", name := "isSign", desc := "(I)Z" } : Jvm.MethodName) prog_1_method_20_code (2 : Nat) (Option.some Jvm.ClassFile.FieldType.boolean)) ∈ lw_all := lw_g (lw_at lw_m3 59 rfl) rfl
theorem q609 : (Jvm.Cond.classLink "BoatsCalledIn" (210 : Nat) "BoatsCalledIn$Two") ∈ lw_all := lw_g (lw_at lw_m3 60 rfl) rfl
theorem q611 : (Jvm.Cond.methodLink "BoatsCalledIn" (212 : Nat) ({ cls := "BoatsCalledIn$Two", name := "<init>", desc := "(ILBoatsCalledIn$Node;LBoatsCalledIn$Node;)V" } : Jvm.MethodName)) ∈ lw_all := lw_g (lw_at lw_m3 62 rfl) rfl
theorem q627 : (Jvm.Cond.instanceMethod ({ cls := "BoatsCalledIn", name := "<init>", desc := "()V" } : Jvm.MethodName)) ∈ lw_all := lw_g (lw_at lw_m3 78 rfl) rfl
theorem q628 : (Jvm.Cond.code ({ cls := "BoatsCalledIn", name := "<init>", desc := "()V" } : Jvm.MethodName) prog_1_method_35_code (1 : Nat) (Option.none : Option Jvm.ClassFile.FieldType)) ∈ lw_all := lw_g (lw_at lw_m3 79 rfl) rfl
theorem q629 : (Jvm.Cond.methodLink "BoatsCalledIn" (268 : Nat) ({ cls := "java/lang/Object", name := "<init>", desc := "()V" } : Jvm.MethodName)) ∈ lw_all := lw_g (lw_at lw_m3 80 rfl) rfl
theorem q687 : (Jvm.Cond.methodLink "BoatsCalledIn" (272 : Nat) ({ cls := "BoatsCalledIn$Faulty", name := "<init>", desc := "()V" } : Jvm.MethodName)) ∈ lw_all := lw_g (lw_at lw_m3 138 rfl) rfl
theorem q713 : (Jvm.Cond.classLink "BoatsCalledIn" (273 : Nat) "[LBoatsCalledIn$Node;") ∈ lw_all := lw_g (lw_at lw_m3 164 rfl) rfl
theorem q715 : (Jvm.Cond.classLink "BoatsCalledIn" (168 : Nat) "java/lang/String") ∈ lw_all := lw_g (lw_at lw_m3 166 rfl) rfl
theorem q717 : (Jvm.Cond.stringRef "BoatsCalledIn" (275 : Nat) "price") ∈ lw_tbl := lw_at lw_m3 168 rfl
theorem q718 : (Jvm.Cond.stringRef "BoatsCalledIn" (277 : Nat) "hears") ∈ lw_tbl := lw_at lw_m3 169 rfl
theorem q719 : (Jvm.Cond.stringRef "BoatsCalledIn" (279 : Nat) "comes") ∈ lw_tbl := lw_at lw_m3 170 rfl
theorem q720 : (Jvm.Cond.stringRef "BoatsCalledIn" (281 : Nat) "or") ∈ lw_tbl := lw_at lw_m3 171 rfl
theorem q721 : (Jvm.Cond.stringRef "BoatsCalledIn" (283 : Nat) "and") ∈ lw_tbl := lw_at lw_m3 172 rfl
theorem q722 : (Jvm.Cond.stringRef "BoatsCalledIn" (285 : Nat) "not") ∈ lw_tbl := lw_at lw_m3 173 rfl
theorem q723 : (Jvm.Cond.stringRef "BoatsCalledIn" (286 : Nat) "far") ∈ lw_tbl := lw_at lw_m3 174 rfl
theorem q724 : (Jvm.Cond.stringRef "BoatsCalledIn" (288 : Nat) "wind") ∈ lw_tbl := lw_at lw_m3 175 rfl
theorem q725 : (Jvm.Cond.stringRef "BoatsCalledIn" (290 : Nat) "late") ∈ lw_tbl := lw_at lw_m3 176 rfl
theorem q726 : (Jvm.Cond.stringRef "BoatsCalledIn" (292 : Nat) "hid") ∈ lw_tbl := lw_at lw_m3 177 rfl
theorem q727 : (Jvm.Cond.stringRef "BoatsCalledIn" (294 : Nat) "boat") ∈ lw_tbl := lw_at lw_m3 178 rfl
theorem q728 : (Jvm.Cond.stringRef "BoatsCalledIn" (296 : Nat) "minute") ∈ lw_tbl := lw_at lw_m3 179 rfl
theorem q729 : (Jvm.Cond.classLink "BoatsCalledIn" (306 : Nat) "[[I") ∈ lw_all := lw_g (lw_at lw_m3 180 rfl) rfl
theorem q731 : (Jvm.Cond.classLink "BoatsCalledIn" (317 : Nat) "BoatsCalledIn$Sheet") ∈ lw_all := lw_g (lw_at lw_m3 182 rfl) rfl
theorem q734 : (Jvm.Cond.methodLinkNest "BoatsCalledIn" (319 : Nat) ({ cls := "BoatsCalledIn$Sheet", name := "<init>", desc := "()V" } : Jvm.MethodName) "BoatsCalledIn") ∈ lw_tbl := lw_at lw_m3 185 rfl
theorem q738 : (Jvm.Cond.fieldLinkNest "BoatsCalledIn" (421 : Nat) "BoatsCalledIn$Sheet" "row" "Ljava/lang/Object;" "BoatsCalledIn") ∈ lw_tbl := lw_at lw_m3 189 rfl
theorem q742 : (Jvm.Cond.stringRef "BoatsCalledIn" (324 : Nat) "price 4 ; hears not hid ; comes 0 - 5 < late ;") ∈ lw_tbl := lw_at lw_m3 193 rfl
theorem q743 : (Jvm.Cond.methodLink "BoatsCalledIn" (326 : Nat) ({ cls := "BoatsCalledIn", name := "firstText", desc := "(Ljava/lang/String;)V" } : Jvm.MethodName)) ∈ lw_all := lw_g (lw_at lw_m3 194 rfl) rfl
theorem q744 : (Jvm.Cond.privateMethod ({ cls := "BoatsCalledIn", name := "firstText", desc := "(Ljava/lang/String;)V" } : Jvm.MethodName)) ∈ lw_tbl := lw_at lw_m3 195 rfl
theorem q745 : (Jvm.Cond.instanceMethod ({ cls := "BoatsCalledIn", name := "firstText", desc := "(Ljava/lang/String;)V" } : Jvm.MethodName)) ∈ lw_all := lw_g (lw_at lw_m3 196 rfl) rfl
theorem q746 : (Jvm.Cond.code ({ cls := "BoatsCalledIn", name := "firstText", desc := "(Ljava/lang/String;)V" } : Jvm.MethodName) prog_1_method_31_code (3 : Nat) (Option.none : Option Jvm.ClassFile.FieldType)) ∈ lw_all := lw_g (lw_at lw_m3 197 rfl) rfl
theorem q747 : (Jvm.Cond.fieldLink "BoatsCalledIn" (48 : Nat) "BoatsCalledIn" "boats" "[LBoatsCalledIn$Boat;") ∈ lw_all := lw_g (lw_at lw_m3 198 rfl) rfl
theorem q749 : (Jvm.Cond.fieldLink "BoatsCalledIn" (56 : Nat) "BoatsCalledIn" "places" "[I") ∈ lw_all := lw_g (lw_at lw_m3 200 rfl) rfl
theorem q750 : (Jvm.Cond.fieldLink "BoatsCalledIn" (60 : Nat) "BoatsCalledIn" "outs" "[I") ∈ lw_all := lw_g (lw_at lw_m3 201 rfl) rfl
theorem q751 : (Jvm.Cond.fieldLink "BoatsCalledIn" (63 : Nat) "BoatsCalledIn" "paid" "[I") ∈ lw_all := lw_g (lw_at lw_m3 202 rfl) rfl
theorem q752 : (Jvm.Cond.fieldLink "BoatsCalledIn" (66 : Nat) "BoatsCalledIn" "states" "[I") ∈ lw_all := lw_g (lw_at lw_m3 203 rfl) rfl
theorem q753 : (Jvm.Cond.fieldLink "BoatsCalledIn" (69 : Nat) "BoatsCalledIn" "ins" "[I") ∈ lw_all := lw_g (lw_at lw_m3 204 rfl) rfl
theorem q754 : (Jvm.Cond.fieldLink "BoatsCalledIn" (15 : Nat) "BoatsCalledIn" "boatMany" "I") ∈ lw_all := lw_g (lw_at lw_m3 205 rfl) rfl
theorem q756 : (Jvm.Cond.fieldLink "BoatsCalledIn" (98 : Nat) "BoatsCalledIn" "lake" "[I") ∈ lw_all := lw_g (lw_at lw_m3 207 rfl) rfl
theorem q758 : (Jvm.Cond.fieldLink "BoatsCalledIn" (116 : Nat) "BoatsCalledIn" "minute" "I") ∈ lw_all := lw_g (lw_at lw_m3 209 rfl) rfl
theorem q759 : (Jvm.Cond.fieldLink "BoatsCalledIn" (359 : Nat) "BoatsCalledIn" "takings" "I") ∈ lw_all := lw_g (lw_at lw_m3 210 rfl) rfl
theorem q760 : (Jvm.Cond.fieldLink "BoatsCalledIn" (172 : Nat) "BoatsCalledIn" "faulty" "LBoatsCalledIn$Faulty;") ∈ lw_all := lw_g (lw_at lw_m3 211 rfl) rfl
theorem q762 : (Jvm.Cond.fieldLink "BoatsCalledIn" (336 : Nat) "BoatsCalledIn" "forBoat" "I") ∈ lw_all := lw_g (lw_at lw_m3 213 rfl) rfl
theorem q763 : (Jvm.Cond.fieldLink "BoatsCalledIn" (256 : Nat) "BoatsCalledIn" "texts" "[[LBoatsCalledIn$Node;") ∈ lw_all := lw_g (lw_at lw_m3 214 rfl) rfl
theorem q764 : (Jvm.Cond.fieldLink "BoatsCalledIn" (260 : Nat) "BoatsCalledIn" "textMany" "I") ∈ lw_all := lw_g (lw_at lw_m3 215 rfl) rfl
theorem q765 : (Jvm.Cond.fieldLink "BoatsCalledIn" (182 : Nat) "BoatsCalledIn" "keys" "[Ljava/lang/String;") ∈ lw_all := lw_g (lw_at lw_m3 216 rfl) rfl
theorem q766 : (Jvm.Cond.fieldLink "BoatsCalledIn" (190 : Nat) "BoatsCalledIn" "names" "[Ljava/lang/String;") ∈ lw_all := lw_g (lw_at lw_m3 217 rfl) rfl
theorem q767 : (Jvm.Cond.fieldLink "BoatsCalledIn" (125 : Nat) "BoatsCalledIn" "tape" "[B") ∈ lw_all := lw_g (lw_at lw_m3 218 rfl) rfl
theorem q768 : (Jvm.Cond.fieldLink "BoatsCalledIn" (249 : Nat) "BoatsCalledIn" "taped" "I") ∈ lw_all := lw_g (lw_at lw_m3 219 rfl) rfl
theorem q769 : (Jvm.Cond.fieldLink "BoatsCalledIn" (122 : Nat) "BoatsCalledIn" "length" "I") ∈ lw_all := lw_g (lw_at lw_m3 220 rfl) rfl
theorem q770 : (Jvm.Cond.fieldLink "BoatsCalledIn" (137 : Nat) "BoatsCalledIn" "at" "I") ∈ lw_all := lw_g (lw_at lw_m3 221 rfl) rfl
theorem q771 : (Jvm.Cond.fieldLink "BoatsCalledIn" (143 : Nat) "BoatsCalledIn" "begin" "I") ∈ lw_all := lw_g (lw_at lw_m3 222 rfl) rfl
theorem q772 : (Jvm.Cond.fieldLink "BoatsCalledIn" (146 : Nat) "BoatsCalledIn" "token" "I") ∈ lw_all := lw_g (lw_at lw_m3 223 rfl) rfl
theorem q773 : (Jvm.Cond.fieldLink "BoatsCalledIn" (162 : Nat) "BoatsCalledIn" "value" "I") ∈ lw_all := lw_g (lw_at lw_m3 224 rfl) rfl
theorem q774 : (Jvm.Cond.fieldLink "BoatsCalledIn" (196 : Nat) "BoatsCalledIn" "opens" "I") ∈ lw_all := lw_g (lw_at lw_m3 225 rfl) rfl
theorem q775 : (Jvm.Cond.fieldLink "BoatsCalledIn" (333 : Nat) "BoatsCalledIn" "rule" "I") ∈ lw_all := lw_g (lw_at lw_m3 226 rfl) rfl
theorem q776 : (Jvm.Cond.fieldLink "BoatsCalledIn" (297 : Nat) "BoatsCalledIn" "order" "[I") ∈ lw_all := lw_g (lw_at lw_m3 227 rfl) rfl
theorem q777 : (Jvm.Cond.fieldLink "BoatsCalledIn" (300 : Nat) "BoatsCalledIn" "bestOrder" "[I") ∈ lw_all := lw_g (lw_at lw_m3 228 rfl) rfl
theorem q778 : (Jvm.Cond.fieldLink "BoatsCalledIn" (378 : Nat) "BoatsCalledIn" "orderMany" "I") ∈ lw_all := lw_g (lw_at lw_m3 229 rfl) rfl
theorem q779 : (Jvm.Cond.fieldLink "BoatsCalledIn" (384 : Nat) "BoatsCalledIn" "fewest" "I") ∈ lw_all := lw_g (lw_at lw_m3 230 rfl) rfl
theorem q780 : (Jvm.Cond.fieldLink "BoatsCalledIn" (303 : Nat) "BoatsCalledIn" "waits" "[I") ∈ lw_all := lw_g (lw_at lw_m3 231 rfl) rfl
theorem q781 : (Jvm.Cond.fieldLink "BoatsCalledIn" (449 : Nat) "BoatsCalledIn" "hasImage" "Z") ∈ lw_all := lw_g (lw_at lw_m3 232 rfl) rfl
theorem q782 : (Jvm.Cond.fieldLink "BoatsCalledIn" (308 : Nat) "BoatsCalledIn" "imageRows" "[[I") ∈ lw_all := lw_g (lw_at lw_m3 233 rfl) rfl
theorem q783 : (Jvm.Cond.fieldLink "BoatsCalledIn" (311 : Nat) "BoatsCalledIn" "imageLake" "[I") ∈ lw_all := lw_g (lw_at lw_m3 234 rfl) rfl
theorem q784 : (Jvm.Cond.fieldLink "BoatsCalledIn" (314 : Nat) "BoatsCalledIn" "imageNumbers" "[I") ∈ lw_all := lw_g (lw_at lw_m3 235 rfl) rfl
theorem q785 : (Jvm.Cond.fieldLink "BoatsCalledIn" (320 : Nat) "BoatsCalledIn" "sheets" "[LBoatsCalledIn$Sheet;") ∈ lw_all := lw_g (lw_at lw_m3 236 rfl) rfl
theorem q786 : (Jvm.Cond.laysFinal "BoatsCalledIn" "BoatsCalledIn" "boats" "[LBoatsCalledIn$Boat;") ∈ lw_all := lw_g (lw_at lw_m3 237 rfl) rfl
theorem q787 : (Jvm.Cond.soleField "BoatsCalledIn" "boats") ∈ lw_all := lw_g (lw_at lw_m3 238 rfl) rfl
theorem q788 : (Jvm.Cond.laysFinal "BoatsCalledIn" "BoatsCalledIn" "places" "[I") ∈ lw_all := lw_g (lw_at lw_m3 239 rfl) rfl
theorem q789 : (Jvm.Cond.soleField "BoatsCalledIn" "places") ∈ lw_all := lw_g (lw_at lw_m4 0 rfl) rfl
theorem q790 : (Jvm.Cond.laysFinal "BoatsCalledIn" "BoatsCalledIn" "outs" "[I") ∈ lw_all := lw_g (lw_at lw_m4 1 rfl) rfl
theorem q791 : (Jvm.Cond.soleField "BoatsCalledIn" "outs") ∈ lw_all := lw_g (lw_at lw_m4 2 rfl) rfl
theorem q792 : (Jvm.Cond.laysFinal "BoatsCalledIn" "BoatsCalledIn" "paid" "[I") ∈ lw_all := lw_g (lw_at lw_m4 3 rfl) rfl
theorem q793 : (Jvm.Cond.soleField "BoatsCalledIn" "paid") ∈ lw_all := lw_g (lw_at lw_m4 4 rfl) rfl
theorem q794 : (Jvm.Cond.laysFinal "BoatsCalledIn" "BoatsCalledIn" "states" "[I") ∈ lw_all := lw_g (lw_at lw_m4 5 rfl) rfl
theorem q795 : (Jvm.Cond.soleField "BoatsCalledIn" "states") ∈ lw_all := lw_g (lw_at lw_m4 6 rfl) rfl
theorem q796 : (Jvm.Cond.laysFinal "BoatsCalledIn" "BoatsCalledIn" "ins" "[I") ∈ lw_all := lw_g (lw_at lw_m4 7 rfl) rfl
theorem q797 : (Jvm.Cond.soleField "BoatsCalledIn" "ins") ∈ lw_all := lw_g (lw_at lw_m4 8 rfl) rfl
theorem q798 : (Jvm.Cond.lays "BoatsCalledIn" "BoatsCalledIn" "boatMany" "I") ∈ lw_all := lw_g (lw_at lw_m4 9 rfl) rfl
theorem q799 : (Jvm.Cond.soleField "BoatsCalledIn" "boatMany") ∈ lw_all := lw_g (lw_at lw_m4 10 rfl) rfl
theorem q800 : (Jvm.Cond.laysFinal "BoatsCalledIn" "BoatsCalledIn" "lake" "[I") ∈ lw_all := lw_g (lw_at lw_m4 11 rfl) rfl
theorem q801 : (Jvm.Cond.soleField "BoatsCalledIn" "lake") ∈ lw_all := lw_g (lw_at lw_m4 12 rfl) rfl
theorem q802 : (Jvm.Cond.lays "BoatsCalledIn" "BoatsCalledIn" "minute" "I") ∈ lw_all := lw_g (lw_at lw_m4 13 rfl) rfl
theorem q803 : (Jvm.Cond.soleField "BoatsCalledIn" "minute") ∈ lw_all := lw_g (lw_at lw_m4 14 rfl) rfl
theorem q804 : (Jvm.Cond.lays "BoatsCalledIn" "BoatsCalledIn" "takings" "I") ∈ lw_all := lw_g (lw_at lw_m4 15 rfl) rfl
theorem q805 : (Jvm.Cond.soleField "BoatsCalledIn" "takings") ∈ lw_all := lw_g (lw_at lw_m4 16 rfl) rfl
theorem q806 : (Jvm.Cond.laysFinal "BoatsCalledIn" "BoatsCalledIn" "faulty" "LBoatsCalledIn$Faulty;") ∈ lw_all := lw_g (lw_at lw_m4 17 rfl) rfl
theorem q807 : (Jvm.Cond.soleField "BoatsCalledIn" "faulty") ∈ lw_all := lw_g (lw_at lw_m4 18 rfl) rfl
theorem q808 : (Jvm.Cond.lays "BoatsCalledIn" "BoatsCalledIn" "forBoat" "I") ∈ lw_all := lw_g (lw_at lw_m4 19 rfl) rfl
theorem q809 : (Jvm.Cond.soleField "BoatsCalledIn" "forBoat") ∈ lw_all := lw_g (lw_at lw_m4 20 rfl) rfl
theorem q810 : (Jvm.Cond.laysFinal "BoatsCalledIn" "BoatsCalledIn" "texts" "[[LBoatsCalledIn$Node;") ∈ lw_all := lw_g (lw_at lw_m4 21 rfl) rfl
theorem q811 : (Jvm.Cond.soleField "BoatsCalledIn" "texts") ∈ lw_all := lw_g (lw_at lw_m4 22 rfl) rfl
theorem q812 : (Jvm.Cond.lays "BoatsCalledIn" "BoatsCalledIn" "textMany" "I") ∈ lw_all := lw_g (lw_at lw_m4 23 rfl) rfl
theorem q813 : (Jvm.Cond.soleField "BoatsCalledIn" "textMany") ∈ lw_all := lw_g (lw_at lw_m4 24 rfl) rfl
theorem q814 : (Jvm.Cond.laysFinal "BoatsCalledIn" "BoatsCalledIn" "keys" "[Ljava/lang/String;") ∈ lw_all := lw_g (lw_at lw_m4 25 rfl) rfl
theorem q815 : (Jvm.Cond.soleField "BoatsCalledIn" "keys") ∈ lw_all := lw_g (lw_at lw_m4 26 rfl) rfl
theorem q816 : (Jvm.Cond.laysFinal "BoatsCalledIn" "BoatsCalledIn" "names" "[Ljava/lang/String;") ∈ lw_all := lw_g (lw_at lw_m4 27 rfl) rfl
theorem q817 : (Jvm.Cond.soleField "BoatsCalledIn" "names") ∈ lw_all := lw_g (lw_at lw_m4 28 rfl) rfl
theorem q818 : (Jvm.Cond.laysFinal "BoatsCalledIn" "BoatsCalledIn" "tape" "[B") ∈ lw_all := lw_g (lw_at lw_m4 29 rfl) rfl
theorem q819 : (Jvm.Cond.soleField "BoatsCalledIn" "tape") ∈ lw_all := lw_g (lw_at lw_m4 30 rfl) rfl
theorem q820 : (Jvm.Cond.lays "BoatsCalledIn" "BoatsCalledIn" "taped" "I") ∈ lw_all := lw_g (lw_at lw_m4 31 rfl) rfl
theorem q821 : (Jvm.Cond.soleField "BoatsCalledIn" "taped") ∈ lw_all := lw_g (lw_at lw_m4 32 rfl) rfl
theorem q822 : (Jvm.Cond.lays "BoatsCalledIn" "BoatsCalledIn" "length" "I") ∈ lw_all := lw_g (lw_at lw_m4 33 rfl) rfl
theorem q823 : (Jvm.Cond.soleField "BoatsCalledIn" "length") ∈ lw_all := lw_g (lw_at lw_m4 34 rfl) rfl
theorem q824 : (Jvm.Cond.lays "BoatsCalledIn" "BoatsCalledIn" "at" "I") ∈ lw_all := lw_g (lw_at lw_m4 35 rfl) rfl
theorem q825 : (Jvm.Cond.soleField "BoatsCalledIn" "at") ∈ lw_all := lw_g (lw_at lw_m4 36 rfl) rfl
theorem q826 : (Jvm.Cond.lays "BoatsCalledIn" "BoatsCalledIn" "begin" "I") ∈ lw_all := lw_g (lw_at lw_m4 37 rfl) rfl
theorem q827 : (Jvm.Cond.soleField "BoatsCalledIn" "begin") ∈ lw_all := lw_g (lw_at lw_m4 38 rfl) rfl
theorem q828 : (Jvm.Cond.lays "BoatsCalledIn" "BoatsCalledIn" "token" "I") ∈ lw_all := lw_g (lw_at lw_m4 39 rfl) rfl
theorem q829 : (Jvm.Cond.soleField "BoatsCalledIn" "token") ∈ lw_all := lw_g (lw_at lw_m4 40 rfl) rfl
theorem q830 : (Jvm.Cond.lays "BoatsCalledIn" "BoatsCalledIn" "value" "I") ∈ lw_all := lw_g (lw_at lw_m4 41 rfl) rfl
theorem q831 : (Jvm.Cond.soleField "BoatsCalledIn" "value") ∈ lw_all := lw_g (lw_at lw_m4 42 rfl) rfl
theorem q832 : (Jvm.Cond.lays "BoatsCalledIn" "BoatsCalledIn" "opens" "I") ∈ lw_all := lw_g (lw_at lw_m4 43 rfl) rfl
theorem q833 : (Jvm.Cond.soleField "BoatsCalledIn" "opens") ∈ lw_all := lw_g (lw_at lw_m4 44 rfl) rfl
theorem q834 : (Jvm.Cond.lays "BoatsCalledIn" "BoatsCalledIn" "rule" "I") ∈ lw_all := lw_g (lw_at lw_m4 45 rfl) rfl
theorem q835 : (Jvm.Cond.soleField "BoatsCalledIn" "rule") ∈ lw_all := lw_g (lw_at lw_m4 46 rfl) rfl
theorem q836 : (Jvm.Cond.laysFinal "BoatsCalledIn" "BoatsCalledIn" "order" "[I") ∈ lw_all := lw_g (lw_at lw_m4 47 rfl) rfl
theorem q837 : (Jvm.Cond.soleField "BoatsCalledIn" "order") ∈ lw_all := lw_g (lw_at lw_m4 48 rfl) rfl
theorem q838 : (Jvm.Cond.laysFinal "BoatsCalledIn" "BoatsCalledIn" "bestOrder" "[I") ∈ lw_all := lw_g (lw_at lw_m4 49 rfl) rfl
theorem q839 : (Jvm.Cond.soleField "BoatsCalledIn" "bestOrder") ∈ lw_all := lw_g (lw_at lw_m4 50 rfl) rfl
theorem q840 : (Jvm.Cond.lays "BoatsCalledIn" "BoatsCalledIn" "orderMany" "I") ∈ lw_all := lw_g (lw_at lw_m4 51 rfl) rfl
theorem q841 : (Jvm.Cond.soleField "BoatsCalledIn" "orderMany") ∈ lw_all := lw_g (lw_at lw_m4 52 rfl) rfl
theorem q842 : (Jvm.Cond.lays "BoatsCalledIn" "BoatsCalledIn" "fewest" "I") ∈ lw_all := lw_g (lw_at lw_m4 53 rfl) rfl
theorem q843 : (Jvm.Cond.soleField "BoatsCalledIn" "fewest") ∈ lw_all := lw_g (lw_at lw_m4 54 rfl) rfl
theorem q844 : (Jvm.Cond.laysFinal "BoatsCalledIn" "BoatsCalledIn" "waits" "[I") ∈ lw_all := lw_g (lw_at lw_m4 55 rfl) rfl
theorem q845 : (Jvm.Cond.soleField "BoatsCalledIn" "waits") ∈ lw_all := lw_g (lw_at lw_m4 56 rfl) rfl
theorem q846 : (Jvm.Cond.lays "BoatsCalledIn" "BoatsCalledIn" "hasImage" "Z") ∈ lw_all := lw_g (lw_at lw_m4 57 rfl) rfl
theorem q847 : (Jvm.Cond.soleField "BoatsCalledIn" "hasImage") ∈ lw_all := lw_g (lw_at lw_m4 58 rfl) rfl
theorem q848 : (Jvm.Cond.laysFinal "BoatsCalledIn" "BoatsCalledIn" "imageRows" "[[I") ∈ lw_all := lw_g (lw_at lw_m4 59 rfl) rfl
theorem q849 : (Jvm.Cond.soleField "BoatsCalledIn" "imageRows") ∈ lw_all := lw_g (lw_at lw_m4 60 rfl) rfl
theorem q850 : (Jvm.Cond.laysFinal "BoatsCalledIn" "BoatsCalledIn" "imageLake" "[I") ∈ lw_all := lw_g (lw_at lw_m4 61 rfl) rfl
theorem q851 : (Jvm.Cond.soleField "BoatsCalledIn" "imageLake") ∈ lw_all := lw_g (lw_at lw_m4 62 rfl) rfl
theorem q852 : (Jvm.Cond.laysFinal "BoatsCalledIn" "BoatsCalledIn" "imageNumbers" "[I") ∈ lw_all := lw_g (lw_at lw_m4 63 rfl) rfl
theorem q853 : (Jvm.Cond.soleField "BoatsCalledIn" "imageNumbers") ∈ lw_all := lw_g (lw_at lw_m4 64 rfl) rfl
theorem q854 : (Jvm.Cond.laysFinal "BoatsCalledIn" "BoatsCalledIn" "sheets" "[LBoatsCalledIn$Sheet;") ∈ lw_all := lw_g (lw_at lw_m4 65 rfl) rfl
theorem q855 : (Jvm.Cond.soleField "BoatsCalledIn" "sheets") ∈ lw_all := lw_g (lw_at lw_m4 66 rfl) rfl
theorem q856 : (Jvm.Cond.superclass "BoatsCalledIn" "java/lang/Object") ∈ lw_all := lw_g (lw_at lw_m4 67 rfl) rfl
theorem q858 : (Jvm.Cond.instanceMethod ({ cls := "BoatsCalledIn", name := "force", desc := "(I)I" } : Jvm.MethodName)) ∈ lw_all := lw_g (lw_at lw_m4 69 rfl) rfl
theorem q859 : (Jvm.Cond.selects "BoatsCalledIn" ({ cls := "BoatsCalledIn", name := "force", desc := "(I)I" } : Jvm.MethodName) ({ cls := "BoatsCalledIn", name := "force", desc := "(I)I" } : Jvm.MethodName)) ∈ lw_all := lw_g (lw_at lw_m4 70 rfl) rfl
theorem q860 : (Jvm.Cond.code ({ cls := "BoatsCalledIn", name := "force", desc := "(I)I" } : Jvm.MethodName) prog_1_method_36_code (3 : Nat) (Option.some Jvm.ClassFile.FieldType.int)) ∈ lw_all := lw_g (lw_at lw_m4 71 rfl) rfl
theorem q861 : (Jvm.Cond.methodLink "BoatsCalledIn" (330 : Nat) ({ cls := "BoatsCalledIn", name := "isText", desc := "(I)Z" } : Jvm.MethodName)) ∈ lw_all := lw_g (lw_at lw_m4 72 rfl) rfl
theorem q862 : (Jvm.Cond.privateMethod ({ cls := "BoatsCalledIn", name := "isText", desc := "(I)Z" } : Jvm.MethodName)) ∈ lw_tbl := lw_at lw_m4 73 rfl
theorem q863 : (Jvm.Cond.instanceMethod ({ cls := "BoatsCalledIn", name := "isText", desc := "(I)Z" } : Jvm.MethodName)) ∈ lw_all := lw_g (lw_at lw_m4 74 rfl) rfl
theorem q864 : (Jvm.Cond.code ({ cls := "BoatsCalledIn", name := "isText", desc := "(I)Z" } : Jvm.MethodName) prog_1_method_34_code (2 : Nat) (Option.some Jvm.ClassFile.FieldType.boolean)) ∈ lw_all := lw_g (lw_at lw_m4 75 rfl) rfl
theorem q866 : (Jvm.Cond.instanceMethod ({ cls := "BoatsCalledIn", name := "call", desc := "(I)I" } : Jvm.MethodName)) ∈ lw_all := lw_g (lw_at lw_m4 77 rfl) rfl
theorem q867 : (Jvm.Cond.selects "BoatsCalledIn" ({ cls := "BoatsCalledIn", name := "call", desc := "(I)I" } : Jvm.MethodName) ({ cls := "BoatsCalledIn", name := "call", desc := "(I)I" } : Jvm.MethodName)) ∈ lw_all := lw_g (lw_at lw_m4 78 rfl) rfl
theorem q868 : (Jvm.Cond.code ({ cls := "BoatsCalledIn", name := "call", desc := "(I)I" } : Jvm.MethodName) prog_1_method_45_code (2 : Nat) (Option.some Jvm.ClassFile.FieldType.int)) ∈ lw_all := lw_g (lw_at lw_m4 79 rfl) rfl
theorem q869 : (Jvm.Cond.methodLink "BoatsCalledIn" (365 : Nat) ({ cls := "BoatsCalledIn", name := "calls", desc := "(I)I" } : Jvm.MethodName)) ∈ lw_all := lw_g (lw_at lw_m4 80 rfl) rfl
theorem q870 : (Jvm.Cond.privateMethod ({ cls := "BoatsCalledIn", name := "calls", desc := "(I)I" } : Jvm.MethodName)) ∈ lw_tbl := lw_at lw_m4 81 rfl
theorem q871 : (Jvm.Cond.instanceMethod ({ cls := "BoatsCalledIn", name := "calls", desc := "(I)I" } : Jvm.MethodName)) ∈ lw_all := lw_g (lw_at lw_m4 82 rfl) rfl
theorem q872 : (Jvm.Cond.code ({ cls := "BoatsCalledIn", name := "calls", desc := "(I)I" } : Jvm.MethodName) prog_1_method_44_code (2 : Nat) (Option.some Jvm.ClassFile.FieldType.int)) ∈ lw_all := lw_g (lw_at lw_m4 83 rfl) rfl
theorem q873 : (Jvm.Cond.methodLink "BoatsCalledIn" (362 : Nat) ({ cls := "BoatsCalledIn", name := "needs", desc := "(I)I" } : Jvm.MethodName)) ∈ lw_all := lw_g (lw_at lw_m4 84 rfl) rfl
theorem q874 : (Jvm.Cond.privateMethod ({ cls := "BoatsCalledIn", name := "needs", desc := "(I)I" } : Jvm.MethodName)) ∈ lw_tbl := lw_at lw_m4 85 rfl
theorem q875 : (Jvm.Cond.instanceMethod ({ cls := "BoatsCalledIn", name := "needs", desc := "(I)I" } : Jvm.MethodName)) ∈ lw_all := lw_g (lw_at lw_m4 86 rfl) rfl
theorem q876 : (Jvm.Cond.code ({ cls := "BoatsCalledIn", name := "needs", desc := "(I)I" } : Jvm.MethodName) prog_1_method_41_code (2 : Nat) (Option.some Jvm.ClassFile.FieldType.int)) ∈ lw_all := lw_g (lw_at lw_m4 87 rfl) rfl
theorem q878 : (Jvm.Cond.instanceMethod ({ cls := "BoatsCalledIn", name := "time", desc := "(I)I" } : Jvm.MethodName)) ∈ lw_all := lw_g (lw_at lw_m4 89 rfl) rfl
theorem q879 : (Jvm.Cond.selects "BoatsCalledIn" ({ cls := "BoatsCalledIn", name := "time", desc := "(I)I" } : Jvm.MethodName) ({ cls := "BoatsCalledIn", name := "time", desc := "(I)I" } : Jvm.MethodName)) ∈ lw_all := lw_g (lw_at lw_m4 90 rfl) rfl
theorem q880 : (Jvm.Cond.code ({ cls := "BoatsCalledIn", name := "time", desc := "(I)I" } : Jvm.MethodName) prog_1_method_47_code (2 : Nat) (Option.some Jvm.ClassFile.FieldType.int)) ∈ lw_all := lw_g (lw_at lw_m4 91 rfl) rfl
theorem q881 : (Jvm.Cond.methodLink "BoatsCalledIn" (372 : Nat) ({ cls := "BoatsCalledIn", name := "passes", desc := "(I)I" } : Jvm.MethodName)) ∈ lw_all := lw_g (lw_at lw_m4 92 rfl) rfl
theorem q882 : (Jvm.Cond.privateMethod ({ cls := "BoatsCalledIn", name := "passes", desc := "(I)I" } : Jvm.MethodName)) ∈ lw_tbl := lw_at lw_m4 93 rfl
theorem q883 : (Jvm.Cond.instanceMethod ({ cls := "BoatsCalledIn", name := "passes", desc := "(I)I" } : Jvm.MethodName)) ∈ lw_all := lw_g (lw_at lw_m4 94 rfl) rfl
theorem q884 : (Jvm.Cond.code ({ cls := "BoatsCalledIn", name := "passes", desc := "(I)I" } : Jvm.MethodName) prog_1_method_46_code (4 : Nat) (Option.some Jvm.ClassFile.FieldType.int)) ∈ lw_all := lw_g (lw_at lw_m4 95 rfl) rfl
theorem q885 : (Jvm.Cond.methodLink "BoatsCalledIn" (368 : Nat) ({ cls := "BoatsCalledIn", name := "comesIn", desc := "(II)V" } : Jvm.MethodName)) ∈ lw_all := lw_g (lw_at lw_m4 96 rfl) rfl
theorem q886 : (Jvm.Cond.privateMethod ({ cls := "BoatsCalledIn", name := "comesIn", desc := "(II)V" } : Jvm.MethodName)) ∈ lw_tbl := lw_at lw_m4 97 rfl
theorem q887 : (Jvm.Cond.instanceMethod ({ cls := "BoatsCalledIn", name := "comesIn", desc := "(II)V" } : Jvm.MethodName)) ∈ lw_all := lw_g (lw_at lw_m4 98 rfl) rfl
theorem q888 : (Jvm.Cond.code ({ cls := "BoatsCalledIn", name := "comesIn", desc := "(II)V" } : Jvm.MethodName) prog_1_method_43_code (3 : Nat) (Option.none : Option Jvm.ClassFile.FieldType)) ∈ lw_all := lw_g (lw_at lw_m4 99 rfl) rfl
theorem q890 : (Jvm.Cond.instanceMethod ({ cls := "BoatsCalledIn", name := "nobody", desc := "()I" } : Jvm.MethodName)) ∈ lw_all := lw_g (lw_at lw_m4 101 rfl) rfl
theorem q891 : (Jvm.Cond.selects "BoatsCalledIn" ({ cls := "BoatsCalledIn", name := "nobody", desc := "()I" } : Jvm.MethodName) ({ cls := "BoatsCalledIn", name := "nobody", desc := "()I" } : Jvm.MethodName)) ∈ lw_all := lw_g (lw_at lw_m4 102 rfl) rfl
theorem q892 : (Jvm.Cond.code ({ cls := "BoatsCalledIn", name := "nobody", desc := "()I" } : Jvm.MethodName) prog_1_method_49_code (3 : Nat) (Option.some Jvm.ClassFile.FieldType.int)) ∈ lw_all := lw_g (lw_at lw_m4 103 rfl) rfl
theorem q894 : (Jvm.Cond.instanceMethod ({ cls := "BoatsCalledIn", name := "callAt", desc := "(I)I" } : Jvm.MethodName)) ∈ lw_all := lw_g (lw_at lw_m4 105 rfl) rfl
theorem q895 : (Jvm.Cond.selects "BoatsCalledIn" ({ cls := "BoatsCalledIn", name := "callAt", desc := "(I)I" } : Jvm.MethodName) ({ cls := "BoatsCalledIn", name := "callAt", desc := "(I)I" } : Jvm.MethodName)) ∈ lw_all := lw_g (lw_at lw_m4 106 rfl) rfl
theorem q896 : (Jvm.Cond.codeWith ({ cls := "BoatsCalledIn", name := "callAt", desc := "(I)I" } : Jvm.MethodName) prog_1_method_50_code (6 : Nat) (Option.some Jvm.ClassFile.FieldType.int) [((28 : Nat), (73 : Nat), (96 : Nat), (0 : Nat)), ((81 : Nat), (89 : Nat), (96 : Nat), (0 : Nat)), ((96 : Nat), (98 : Nat), (96 : Nat), (0 : Nat))]) ∈ lw_all := lw_g (lw_at lw_m4 107 rfl) rfl
theorem q898 : (Jvm.Cond.instanceMethod ({ cls := "BoatsCalledIn", name := "allIn", desc := "()I" } : Jvm.MethodName)) ∈ lw_all := lw_g (lw_at lw_m4 109 rfl) rfl
theorem q899 : (Jvm.Cond.selects "BoatsCalledIn" ({ cls := "BoatsCalledIn", name := "allIn", desc := "()I" } : Jvm.MethodName) ({ cls := "BoatsCalledIn", name := "allIn", desc := "()I" } : Jvm.MethodName)) ∈ lw_all := lw_g (lw_at lw_m4 110 rfl) rfl
theorem q900 : (Jvm.Cond.code ({ cls := "BoatsCalledIn", name := "allIn", desc := "()I" } : Jvm.MethodName) prog_1_method_52_code (3 : Nat) (Option.some Jvm.ClassFile.FieldType.int)) ∈ lw_all := lw_g (lw_at lw_m4 111 rfl) rfl
theorem q901 : (Jvm.Cond.methodLink "BoatsCalledIn" (375 : Nat) ({ cls := "BoatsCalledIn", name := "wouldBeIn", desc := "(I)I" } : Jvm.MethodName)) ∈ lw_all := lw_g (lw_at lw_m4 112 rfl) rfl
theorem q902 : (Jvm.Cond.privateMethod ({ cls := "BoatsCalledIn", name := "wouldBeIn", desc := "(I)I" } : Jvm.MethodName)) ∈ lw_tbl := lw_at lw_m4 113 rfl
theorem q903 : (Jvm.Cond.instanceMethod ({ cls := "BoatsCalledIn", name := "wouldBeIn", desc := "(I)I" } : Jvm.MethodName)) ∈ lw_all := lw_g (lw_at lw_m4 114 rfl) rfl
theorem q904 : (Jvm.Cond.code ({ cls := "BoatsCalledIn", name := "wouldBeIn", desc := "(I)I" } : Jvm.MethodName) prog_1_method_51_code (2 : Nat) (Option.some Jvm.ClassFile.FieldType.int)) ∈ lw_all := lw_g (lw_at lw_m4 115 rfl) rfl
theorem q906 : (Jvm.Cond.instanceMethod ({ cls := "BoatsCalledIn", name := "fetch", desc := "(II)I" } : Jvm.MethodName)) ∈ lw_all := lw_g (lw_at lw_m4 117 rfl) rfl
theorem q907 : (Jvm.Cond.selects "BoatsCalledIn" ({ cls := "BoatsCalledIn", name := "fetch", desc := "(II)I" } : Jvm.MethodName) ({ cls := "BoatsCalledIn", name := "fetch", desc := "(II)I" } : Jvm.MethodName)) ∈ lw_all := lw_g (lw_at lw_m4 118 rfl) rfl
theorem q908 : (Jvm.Cond.code ({ cls := "BoatsCalledIn", name := "fetch", desc := "(II)I" } : Jvm.MethodName) prog_1_method_57_code (4 : Nat) (Option.some Jvm.ClassFile.FieldType.int)) ∈ lw_all := lw_g (lw_at lw_m4 119 rfl) rfl
theorem q909 : (Jvm.Cond.methodLink "BoatsCalledIn" (404 : Nat) ({ cls := "BoatsCalledIn", name := "isFetched", desc := "(I)Z" } : Jvm.MethodName)) ∈ lw_all := lw_g (lw_at lw_m4 120 rfl) rfl
theorem q910 : (Jvm.Cond.privateMethod ({ cls := "BoatsCalledIn", name := "isFetched", desc := "(I)Z" } : Jvm.MethodName)) ∈ lw_tbl := lw_at lw_m4 121 rfl
theorem q911 : (Jvm.Cond.instanceMethod ({ cls := "BoatsCalledIn", name := "isFetched", desc := "(I)Z" } : Jvm.MethodName)) ∈ lw_all := lw_g (lw_at lw_m4 122 rfl) rfl
theorem q912 : (Jvm.Cond.code ({ cls := "BoatsCalledIn", name := "isFetched", desc := "(I)Z" } : Jvm.MethodName) prog_1_method_56_code (2 : Nat) (Option.some Jvm.ClassFile.FieldType.boolean)) ∈ lw_all := lw_g (lw_at lw_m4 123 rfl) rfl
theorem q913 : (Jvm.Cond.methodLink "BoatsCalledIn" (401 : Nat) ({ cls := "BoatsCalledIn", name := "onLake", desc := "()I" } : Jvm.MethodName)) ∈ lw_all := lw_g (lw_at lw_m4 124 rfl) rfl
theorem q914 : (Jvm.Cond.privateMethod ({ cls := "BoatsCalledIn", name := "onLake", desc := "()I" } : Jvm.MethodName)) ∈ lw_tbl := lw_at lw_m4 125 rfl
theorem q915 : (Jvm.Cond.instanceMethod ({ cls := "BoatsCalledIn", name := "onLake", desc := "()I" } : Jvm.MethodName)) ∈ lw_all := lw_g (lw_at lw_m4 126 rfl) rfl
theorem q916 : (Jvm.Cond.code ({ cls := "BoatsCalledIn", name := "onLake", desc := "()I" } : Jvm.MethodName) prog_1_method_48_code (3 : Nat) (Option.some Jvm.ClassFile.FieldType.int)) ∈ lw_all := lw_g (lw_at lw_m4 127 rfl) rfl
theorem q917 : (Jvm.Cond.constantLong "BoatsCalledIn" (407 : Nat) (7 : Int64)) ∈ lw_all := lw_g (lw_at lw_m4 128 rfl) rfl
theorem q918 : (Jvm.Cond.methodLink "BoatsCalledIn" (409 : Nat) ({ cls := "BoatsCalledIn", name := "fetches", desc := "(I)I" } : Jvm.MethodName)) ∈ lw_all := lw_g (lw_at lw_m4 129 rfl) rfl
theorem q919 : (Jvm.Cond.privateMethod ({ cls := "BoatsCalledIn", name := "fetches", desc := "(I)I" } : Jvm.MethodName)) ∈ lw_tbl := lw_at lw_m4 130 rfl
theorem q920 : (Jvm.Cond.instanceMethod ({ cls := "BoatsCalledIn", name := "fetches", desc := "(I)I" } : Jvm.MethodName)) ∈ lw_all := lw_g (lw_at lw_m4 131 rfl) rfl
theorem q921 : (Jvm.Cond.code ({ cls := "BoatsCalledIn", name := "fetches", desc := "(I)I" } : Jvm.MethodName) prog_1_method_55_code (2 : Nat) (Option.some Jvm.ClassFile.FieldType.int)) ∈ lw_all := lw_g (lw_at lw_m4 132 rfl) rfl
theorem q922 : (Jvm.Cond.methodLink "BoatsCalledIn" (396 : Nat) ({ cls := "java/lang/Integer", name := "bitCount", desc := "(I)I" } : Jvm.MethodName)) ∈ lw_all := lw_g (lw_at lw_m4 133 rfl) rfl
theorem q928 : (Jvm.Cond.methodLink "BoatsCalledIn" (393 : Nat) ({ cls := "BoatsCalledIn", name := "orders", desc := "(II)V" } : Jvm.MethodName)) ∈ lw_all := lw_g (lw_at lw_m4 139 rfl) rfl
theorem q929 : (Jvm.Cond.privateMethod ({ cls := "BoatsCalledIn", name := "orders", desc := "(II)V" } : Jvm.MethodName)) ∈ lw_tbl := lw_at lw_m4 140 rfl
theorem q930 : (Jvm.Cond.instanceMethod ({ cls := "BoatsCalledIn", name := "orders", desc := "(II)V" } : Jvm.MethodName)) ∈ lw_all := lw_g (lw_at lw_m4 141 rfl) rfl
theorem q931 : (Jvm.Cond.code ({ cls := "BoatsCalledIn", name := "orders", desc := "(II)V" } : Jvm.MethodName) prog_1_method_54_code (4 : Nat) (Option.none : Option Jvm.ClassFile.FieldType)) ∈ lw_all := lw_g (lw_at lw_m4 142 rfl) rfl
theorem q932 : (Jvm.Cond.methodLink "BoatsCalledIn" (381 : Nat) ({ cls := "BoatsCalledIn", name := "minutesOf", desc := "()I" } : Jvm.MethodName)) ∈ lw_all := lw_g (lw_at lw_m4 143 rfl) rfl
theorem q933 : (Jvm.Cond.privateMethod ({ cls := "BoatsCalledIn", name := "minutesOf", desc := "()I" } : Jvm.MethodName)) ∈ lw_tbl := lw_at lw_m4 144 rfl
theorem q934 : (Jvm.Cond.instanceMethod ({ cls := "BoatsCalledIn", name := "minutesOf", desc := "()I" } : Jvm.MethodName)) ∈ lw_all := lw_g (lw_at lw_m4 145 rfl) rfl
theorem q935 : (Jvm.Cond.code ({ cls := "BoatsCalledIn", name := "minutesOf", desc := "()I" } : Jvm.MethodName) prog_1_method_53_code (5 : Nat) (Option.some Jvm.ClassFile.FieldType.int)) ∈ lw_all := lw_g (lw_at lw_m4 146 rfl) rfl
theorem q936 : (Jvm.Cond.methodLink "BoatsCalledIn" (387 : Nat) ({ cls := "java/lang/System", name := "arraycopy", desc := "(Ljava/lang/Object;ILjava/lang/Object;II)V" } : Jvm.MethodName)) ∈ lw_all := lw_g (lw_at lw_m4 147 rfl) rfl
theorem q940 : (Jvm.Cond.instanceMethod ({ cls := "BoatsCalledIn", name := "launch", desc := "(I)I" } : Jvm.MethodName)) ∈ lw_all := lw_g (lw_at lw_m4 151 rfl) rfl
theorem q941 : (Jvm.Cond.selects "BoatsCalledIn" ({ cls := "BoatsCalledIn", name := "launch", desc := "(I)I" } : Jvm.MethodName) ({ cls := "BoatsCalledIn", name := "launch", desc := "(I)I" } : Jvm.MethodName)) ∈ lw_all := lw_g (lw_at lw_m4 152 rfl) rfl
theorem q942 : (Jvm.Cond.code ({ cls := "BoatsCalledIn", name := "launch", desc := "(I)I" } : Jvm.MethodName) prog_1_method_58_code (4 : Nat) (Option.some Jvm.ClassFile.FieldType.int)) ∈ lw_all := lw_g (lw_at lw_m4 153 rfl) rfl
theorem q944 : (Jvm.Cond.instanceMethod ({ cls := "BoatsCalledIn", name := "one", desc := "(I)I" } : Jvm.MethodName)) ∈ lw_all := lw_g (lw_at lw_m4 155 rfl) rfl
theorem q945 : (Jvm.Cond.selects "BoatsCalledIn" ({ cls := "BoatsCalledIn", name := "one", desc := "(I)I" } : Jvm.MethodName) ({ cls := "BoatsCalledIn", name := "one", desc := "(I)I" } : Jvm.MethodName)) ∈ lw_all := lw_g (lw_at lw_m4 156 rfl) rfl
theorem q946 : (Jvm.Cond.code ({ cls := "BoatsCalledIn", name := "one", desc := "(I)I" } : Jvm.MethodName) prog_1_method_59_code (6 : Nat) (Option.some Jvm.ClassFile.FieldType.int)) ∈ lw_all := lw_g (lw_at lw_m4 157 rfl) rfl
theorem q948 : (Jvm.Cond.instanceMethod ({ cls := "BoatsCalledIn", name := "thunder", desc := "(II)I" } : Jvm.MethodName)) ∈ lw_all := lw_g (lw_at lw_m4 159 rfl) rfl
theorem q949 : (Jvm.Cond.selects "BoatsCalledIn" ({ cls := "BoatsCalledIn", name := "thunder", desc := "(II)I" } : Jvm.MethodName) ({ cls := "BoatsCalledIn", name := "thunder", desc := "(II)I" } : Jvm.MethodName)) ∈ lw_all := lw_g (lw_at lw_m4 160 rfl) rfl
theorem q950 : (Jvm.Cond.code ({ cls := "BoatsCalledIn", name := "thunder", desc := "(II)I" } : Jvm.MethodName) prog_1_method_61_code (6 : Nat) (Option.some Jvm.ClassFile.FieldType.int)) ∈ lw_all := lw_g (lw_at lw_m4 161 rfl) rfl
theorem q951 : (Jvm.Cond.methodLink "BoatsCalledIn" (412 : Nat) ({ cls := "BoatsCalledIn", name := "nobody", desc := "()I" } : Jvm.MethodName)) ∈ lw_all := lw_g (lw_at lw_m4 162 rfl) rfl
theorem q952 : (Jvm.Cond.methodLink "BoatsCalledIn" (415 : Nat) ({ cls := "BoatsCalledIn", name := "mostFetched", desc := "(II)I" } : Jvm.MethodName)) ∈ lw_all := lw_g (lw_at lw_m4 163 rfl) rfl
theorem q953 : (Jvm.Cond.privateMethod ({ cls := "BoatsCalledIn", name := "mostFetched", desc := "(II)I" } : Jvm.MethodName)) ∈ lw_tbl := lw_at lw_m4 164 rfl
theorem q954 : (Jvm.Cond.instanceMethod ({ cls := "BoatsCalledIn", name := "mostFetched", desc := "(II)I" } : Jvm.MethodName)) ∈ lw_all := lw_g (lw_at lw_m4 165 rfl) rfl
theorem q955 : (Jvm.Cond.code ({ cls := "BoatsCalledIn", name := "mostFetched", desc := "(II)I" } : Jvm.MethodName) prog_1_method_60_code (6 : Nat) (Option.some Jvm.ClassFile.FieldType.int)) ∈ lw_all := lw_g (lw_at lw_m4 166 rfl) rfl
theorem q957 : (Jvm.Cond.instanceMethod ({ cls := "BoatsCalledIn", name := "stand", desc := "()I" } : Jvm.MethodName)) ∈ lw_all := lw_g (lw_at lw_m4 168 rfl) rfl
theorem q958 : (Jvm.Cond.selects "BoatsCalledIn" ({ cls := "BoatsCalledIn", name := "stand", desc := "()I" } : Jvm.MethodName) ({ cls := "BoatsCalledIn", name := "stand", desc := "()I" } : Jvm.MethodName)) ∈ lw_all := lw_g (lw_at lw_m4 169 rfl) rfl
theorem q959 : (Jvm.Cond.code ({ cls := "BoatsCalledIn", name := "stand", desc := "()I" } : Jvm.MethodName) prog_1_method_62_code (5 : Nat) (Option.some Jvm.ClassFile.FieldType.int)) ∈ lw_all := lw_g (lw_at lw_m4 170 rfl) rfl
theorem q961 : (Jvm.Cond.instanceMethod ({ cls := "BoatsCalledIn", name := "heard", desc := "(I)I" } : Jvm.MethodName)) ∈ lw_all := lw_g (lw_at lw_m4 172 rfl) rfl
theorem q962 : (Jvm.Cond.selects "BoatsCalledIn" ({ cls := "BoatsCalledIn", name := "heard", desc := "(I)I" } : Jvm.MethodName) ({ cls := "BoatsCalledIn", name := "heard", desc := "(I)I" } : Jvm.MethodName)) ∈ lw_all := lw_g (lw_at lw_m4 173 rfl) rfl
theorem q963 : (Jvm.Cond.code ({ cls := "BoatsCalledIn", name := "heard", desc := "(I)I" } : Jvm.MethodName) prog_1_method_63_code (7 : Nat) (Option.some Jvm.ClassFile.FieldType.int)) ∈ lw_all := lw_g (lw_at lw_m4 174 rfl) rfl
theorem q964 : (Jvm.Cond.methodLink "BoatsCalledIn" (418 : Nat) ({ cls := "BoatsCalledIn", name := "isSheet", desc := "(I)Z" } : Jvm.MethodName)) ∈ lw_all := lw_g (lw_at lw_m4 175 rfl) rfl
theorem q965 : (Jvm.Cond.static ({ cls := "BoatsCalledIn", name := "isSheet", desc := "(I)Z" } : Jvm.MethodName)) ∈ lw_all := lw_g (lw_at lw_m4 176 rfl) rfl
theorem q966 : (Jvm.Cond.code ({ cls := "BoatsCalledIn", name := "isSheet", desc := "(I)Z" } : Jvm.MethodName) prog_1_method_72_code (1 : Nat) (Option.some Jvm.ClassFile.FieldType.boolean)) ∈ lw_all := lw_g (lw_at lw_m4 177 rfl) rfl
theorem q967 : (Jvm.Cond.methodLink "BoatsCalledIn" (425 : Nat) ({ cls := "BoatsCalledIn", name := "sortOf", desc := "(Ljava/lang/Object;)I" } : Jvm.MethodName)) ∈ lw_all := lw_g (lw_at lw_m4 178 rfl) rfl
theorem q968 : (Jvm.Cond.static ({ cls := "BoatsCalledIn", name := "sortOf", desc := "(Ljava/lang/Object;)I" } : Jvm.MethodName)) ∈ lw_all := lw_g (lw_at lw_m4 179 rfl) rfl
theorem q969 : (Jvm.Cond.code ({ cls := "BoatsCalledIn", name := "sortOf", desc := "(Ljava/lang/Object;)I" } : Jvm.MethodName) prog_1_method_80_code (1 : Nat) (Option.some Jvm.ClassFile.FieldType.int)) ∈ lw_all := lw_g (lw_at lw_m4 180 rfl) rfl
theorem q970 : (Jvm.Cond.classLink "BoatsCalledIn" (466 : Nat) "[B") ∈ lw_all := lw_g (lw_at lw_m4 181 rfl) rfl
theorem q971 : (Jvm.Cond.classLink "BoatsCalledIn" (470 : Nat) "[S") ∈ lw_all := lw_g (lw_at lw_m4 182 rfl) rfl
theorem q972 : (Jvm.Cond.methodLink "BoatsCalledIn" (429 : Nat) ({ cls := "BoatsCalledIn", name := "lengthOf", desc := "(Ljava/lang/Object;I)I" } : Jvm.MethodName)) ∈ lw_all := lw_g (lw_at lw_m4 183 rfl) rfl
theorem q973 : (Jvm.Cond.static ({ cls := "BoatsCalledIn", name := "lengthOf", desc := "(Ljava/lang/Object;I)I" } : Jvm.MethodName)) ∈ lw_all := lw_g (lw_at lw_m4 184 rfl) rfl
theorem q974 : (Jvm.Cond.code ({ cls := "BoatsCalledIn", name := "lengthOf", desc := "(Ljava/lang/Object;I)I" } : Jvm.MethodName) prog_1_method_78_code (2 : Nat) (Option.some Jvm.ClassFile.FieldType.int)) ∈ lw_all := lw_g (lw_at lw_m4 185 rfl) rfl
theorem q975 : (Jvm.Cond.classLink "BoatsCalledIn" (472 : Nat) "[I") ∈ lw_all := lw_g (lw_at lw_m4 186 rfl) rfl
theorem q976 : (Jvm.Cond.methodLink "BoatsCalledIn" (433 : Nat) ({ cls := "BoatsCalledIn", name := "item", desc := "(Ljava/lang/Object;II)I" } : Jvm.MethodName)) ∈ lw_all := lw_g (lw_at lw_m4 187 rfl) rfl
theorem q977 : (Jvm.Cond.static ({ cls := "BoatsCalledIn", name := "item", desc := "(Ljava/lang/Object;II)I" } : Jvm.MethodName)) ∈ lw_all := lw_g (lw_at lw_m4 188 rfl) rfl
theorem q978 : (Jvm.Cond.code ({ cls := "BoatsCalledIn", name := "item", desc := "(Ljava/lang/Object;II)I" } : Jvm.MethodName) prog_1_method_77_code (3 : Nat) (Option.some Jvm.ClassFile.FieldType.int)) ∈ lw_all := lw_g (lw_at lw_m4 189 rfl) rfl
theorem q979 : (Jvm.Cond.methodLink "BoatsCalledIn" (467 : Nat) ({ cls := "BoatsCalledIn", name := "asksPlace", desc := "(II)V" } : Jvm.MethodName)) ∈ lw_all := lw_g (lw_at lw_m4 190 rfl) rfl
theorem q980 : (Jvm.Cond.static ({ cls := "BoatsCalledIn", name := "asksPlace", desc := "(II)V" } : Jvm.MethodName)) ∈ lw_all := lw_g (lw_at lw_m4 191 rfl) rfl
theorem q981 : (Jvm.Cond.code ({ cls := "BoatsCalledIn", name := "asksPlace", desc := "(II)V" } : Jvm.MethodName) prog_1_method_79_code (2 : Nat) (Option.none : Option Jvm.ClassFile.FieldType)) ∈ lw_all := lw_g (lw_at lw_m4 192 rfl) rfl
theorem q982 : (Jvm.Cond.classLink "BoatsCalledIn" (478 : Nat) "java/lang/IndexOutOfBoundsException") ∈ lw_all := lw_g (lw_at lw_m4 193 rfl) rfl
theorem q991 : (Jvm.Cond.methodLink "BoatsCalledIn" (480 : Nat) ({ cls := "java/lang/IndexOutOfBoundsException", name := "<init>", desc := "()V" } : Jvm.MethodName)) ∈ lw_all := lw_g (lw_at lw_m4 202 rfl) rfl
theorem q1004 : (Jvm.Cond.instanceMethod ({ cls := "BoatsCalledIn", name := "where", desc := "(II)I" } : Jvm.MethodName)) ∈ lw_all := lw_g (lw_at lw_m4 215 rfl) rfl
theorem q1005 : (Jvm.Cond.selects "BoatsCalledIn" ({ cls := "BoatsCalledIn", name := "where", desc := "(II)I" } : Jvm.MethodName) ({ cls := "BoatsCalledIn", name := "where", desc := "(II)I" } : Jvm.MethodName)) ∈ lw_all := lw_g (lw_at lw_m4 216 rfl) rfl
theorem q1006 : (Jvm.Cond.code ({ cls := "BoatsCalledIn", name := "where", desc := "(II)I" } : Jvm.MethodName) prog_1_method_65_code (5 : Nat) (Option.some Jvm.ClassFile.FieldType.int)) ∈ lw_all := lw_g (lw_at lw_m4 217 rfl) rfl
theorem q1007 : (Jvm.Cond.methodLink "BoatsCalledIn" (437 : Nat) ({ cls := "BoatsCalledIn", name := "wouldComeFrom", desc := "(II)Z" } : Jvm.MethodName)) ∈ lw_all := lw_g (lw_at lw_m4 218 rfl) rfl
theorem q1008 : (Jvm.Cond.privateMethod ({ cls := "BoatsCalledIn", name := "wouldComeFrom", desc := "(II)Z" } : Jvm.MethodName)) ∈ lw_tbl := lw_at lw_m4 219 rfl
theorem q1009 : (Jvm.Cond.instanceMethod ({ cls := "BoatsCalledIn", name := "wouldComeFrom", desc := "(II)Z" } : Jvm.MethodName)) ∈ lw_all := lw_g (lw_at lw_m4 220 rfl) rfl
theorem q1010 : (Jvm.Cond.codeWith ({ cls := "BoatsCalledIn", name := "wouldComeFrom", desc := "(II)Z" } : Jvm.MethodName) prog_1_method_64_code (6 : Nat) (Option.some Jvm.ClassFile.FieldType.boolean) [((7 : Nat), (21 : Nat), (31 : Nat), (0 : Nat)), ((31 : Nat), (33 : Nat), (31 : Nat), (0 : Nat))]) ∈ lw_all := lw_g (lw_at lw_m4 221 rfl) rfl
theorem q1012 : (Jvm.Cond.instanceMethod ({ cls := "BoatsCalledIn", name := "drawn", desc := "(I)I" } : Jvm.MethodName)) ∈ lw_all := lw_g (lw_at lw_m4 223 rfl) rfl
theorem q1013 : (Jvm.Cond.selects "BoatsCalledIn" ({ cls := "BoatsCalledIn", name := "drawn", desc := "(I)I" } : Jvm.MethodName) ({ cls := "BoatsCalledIn", name := "drawn", desc := "(I)I" } : Jvm.MethodName)) ∈ lw_all := lw_g (lw_at lw_m4 224 rfl) rfl
theorem q1014 : (Jvm.Cond.codeWith ({ cls := "BoatsCalledIn", name := "drawn", desc := "(I)I" } : Jvm.MethodName) prog_1_method_66_code (6 : Nat) (Option.some Jvm.ClassFile.FieldType.int) [((17 : Nat), (46 : Nat), (56 : Nat), (0 : Nat)), ((56 : Nat), (58 : Nat), (56 : Nat), (0 : Nat))]) ∈ lw_all := lw_g (lw_at lw_m4 225 rfl) rfl
theorem q1015 : (Jvm.Cond.constant "BoatsCalledIn" (441 : Nat) (1103515245 : Int32)) ∈ lw_all := lw_g (lw_at lw_m4 226 rfl) rfl
theorem q1017 : (Jvm.Cond.instanceMethod ({ cls := "BoatsCalledIn", name := "chance", desc := "(III)J" } : Jvm.MethodName)) ∈ lw_all := lw_g (lw_at lw_m4 228 rfl) rfl
theorem q1018 : (Jvm.Cond.selects "BoatsCalledIn" ({ cls := "BoatsCalledIn", name := "chance", desc := "(III)J" } : Jvm.MethodName) ({ cls := "BoatsCalledIn", name := "chance", desc := "(III)J" } : Jvm.MethodName)) ∈ lw_all := lw_g (lw_at lw_m4 229 rfl) rfl
theorem q1019 : (Jvm.Cond.code ({ cls := "BoatsCalledIn", name := "chance", desc := "(III)J" } : Jvm.MethodName) prog_1_method_67_code (13 : Nat) (Option.some Jvm.ClassFile.FieldType.long)) ∈ lw_all := lw_g (lw_at lw_m4 230 rfl) rfl
theorem q1020 : (Jvm.Cond.constantLong "BoatsCalledIn" (442 : Nat) (20 : Int64)) ∈ lw_all := lw_g (lw_at lw_m4 231 rfl) rfl
theorem q1021 : (Jvm.Cond.constantLong "BoatsCalledIn" (444 : Nat) (-4611686018427387904 : Int64)) ∈ lw_all := lw_g (lw_at lw_m4 232 rfl) rfl
theorem q1022 : (Jvm.Cond.methodLink "BoatsCalledIn" (446 : Nat) ({ cls := "BoatsCalledIn", name := "drawn", desc := "(I)I" } : Jvm.MethodName)) ∈ lw_all := lw_g (lw_at lw_m4 233 rfl) rfl
theorem q1024 : (Jvm.Cond.instanceMethod ({ cls := "BoatsCalledIn", name := "image", desc := "()I" } : Jvm.MethodName)) ∈ lw_all := lw_g (lw_at lw_m4 235 rfl) rfl
theorem q1025 : (Jvm.Cond.selects "BoatsCalledIn" ({ cls := "BoatsCalledIn", name := "image", desc := "()I" } : Jvm.MethodName) ({ cls := "BoatsCalledIn", name := "image", desc := "()I" } : Jvm.MethodName)) ∈ lw_all := lw_g (lw_at lw_m4 236 rfl) rfl
theorem q1026 : (Jvm.Cond.code ({ cls := "BoatsCalledIn", name := "image", desc := "()I" } : Jvm.MethodName) prog_1_method_68_code (2 : Nat) (Option.some Jvm.ClassFile.FieldType.int)) ∈ lw_all := lw_g (lw_at lw_m4 237 rfl) rfl
theorem q1028 : (Jvm.Cond.instanceMethod ({ cls := "BoatsCalledIn", name := "back", desc := "()I" } : Jvm.MethodName)) ∈ lw_all := lw_g (lw_at lw_m4 239 rfl) rfl
theorem q1029 : (Jvm.Cond.selects "BoatsCalledIn" ({ cls := "BoatsCalledIn", name := "back", desc := "()I" } : Jvm.MethodName) ({ cls := "BoatsCalledIn", name := "back", desc := "()I" } : Jvm.MethodName)) ∈ lw_all := lw_g (lw_at lw_m5 0 rfl) rfl
theorem q1030 : (Jvm.Cond.code ({ cls := "BoatsCalledIn", name := "back", desc := "()I" } : Jvm.MethodName) prog_1_method_69_code (2 : Nat) (Option.some Jvm.ClassFile.FieldType.int)) ∈ lw_all := lw_g (lw_at lw_m5 1 rfl) rfl
theorem q1032 : (Jvm.Cond.instanceMethod ({ cls := "BoatsCalledIn", name := "count", desc := "(I)I" } : Jvm.MethodName)) ∈ lw_all := lw_g (lw_at lw_m5 3 rfl) rfl
theorem q1033 : (Jvm.Cond.selects "BoatsCalledIn" ({ cls := "BoatsCalledIn", name := "count", desc := "(I)I" } : Jvm.MethodName) ({ cls := "BoatsCalledIn", name := "count", desc := "(I)I" } : Jvm.MethodName)) ∈ lw_all := lw_g (lw_at lw_m5 4 rfl) rfl
theorem q1034 : (Jvm.Cond.code ({ cls := "BoatsCalledIn", name := "count", desc := "(I)I" } : Jvm.MethodName) prog_1_method_71_code (2 : Nat) (Option.some Jvm.ClassFile.FieldType.int)) ∈ lw_all := lw_g (lw_at lw_m5 5 rfl) rfl
theorem q1035 : (Jvm.Cond.methodLink "BoatsCalledIn" (453 : Nat) ({ cls := "BoatsCalledIn", name := "manyAre", desc := "(I)I" } : Jvm.MethodName)) ∈ lw_all := lw_g (lw_at lw_m5 6 rfl) rfl
theorem q1036 : (Jvm.Cond.privateMethod ({ cls := "BoatsCalledIn", name := "manyAre", desc := "(I)I" } : Jvm.MethodName)) ∈ lw_tbl := lw_at lw_m5 7 rfl
theorem q1037 : (Jvm.Cond.instanceMethod ({ cls := "BoatsCalledIn", name := "manyAre", desc := "(I)I" } : Jvm.MethodName)) ∈ lw_all := lw_g (lw_at lw_m5 8 rfl) rfl
theorem q1038 : (Jvm.Cond.code ({ cls := "BoatsCalledIn", name := "manyAre", desc := "(I)I" } : Jvm.MethodName) prog_1_method_70_code (4 : Nat) (Option.some Jvm.ClassFile.FieldType.int)) ∈ lw_all := lw_g (lw_at lw_m5 9 rfl) rfl
theorem q1040 : (Jvm.Cond.instanceMethod ({ cls := "BoatsCalledIn", name := "sheet", desc := "(III)I" } : Jvm.MethodName)) ∈ lw_all := lw_g (lw_at lw_m5 11 rfl) rfl
theorem q1041 : (Jvm.Cond.selects "BoatsCalledIn" ({ cls := "BoatsCalledIn", name := "sheet", desc := "(III)I" } : Jvm.MethodName) ({ cls := "BoatsCalledIn", name := "sheet", desc := "(III)I" } : Jvm.MethodName)) ∈ lw_all := lw_g (lw_at lw_m5 12 rfl) rfl
theorem q1042 : (Jvm.Cond.codeWith ({ cls := "BoatsCalledIn", name := "sheet", desc := "(III)I" } : Jvm.MethodName) prog_1_method_74_code (5 : Nat) (Option.some Jvm.ClassFile.FieldType.int) [((52 : Nat), (67 : Nat), (68 : Nat), (464 : Nat))]) ∈ lw_all := lw_g (lw_at lw_m5 13 rfl) rfl
theorem q1043 : (Jvm.Cond.classLink "BoatsCalledIn" (464 : Nat) "java/lang/NegativeArraySizeException") ∈ lw_all := lw_g (lw_at lw_m5 14 rfl) rfl
theorem q1070 : (Jvm.Cond.constantLong "BoatsCalledIn" (456 : Nat) (-1 : Int64)) ∈ lw_all := lw_g (lw_at lw_m5 41 rfl) rfl
theorem q1071 : (Jvm.Cond.constantLong "BoatsCalledIn" (458 : Nat) (2 : Int64)) ∈ lw_all := lw_g (lw_at lw_m5 42 rfl) rfl
theorem q1072 : (Jvm.Cond.methodLink "BoatsCalledIn" (460 : Nat) ({ cls := "BoatsCalledIn", name := "rowOf", desc := "(II)Ljava/lang/Object;" } : Jvm.MethodName)) ∈ lw_all := lw_g (lw_at lw_m5 43 rfl) rfl
theorem q1073 : (Jvm.Cond.static ({ cls := "BoatsCalledIn", name := "rowOf", desc := "(II)Ljava/lang/Object;" } : Jvm.MethodName)) ∈ lw_all := lw_g (lw_at lw_m5 44 rfl) rfl
theorem q1074 : (Jvm.Cond.code ({ cls := "BoatsCalledIn", name := "rowOf", desc := "(II)Ljava/lang/Object;" } : Jvm.MethodName) prog_1_method_73_code (2 : Nat) (Option.some (Jvm.ClassFile.FieldType.object "java/lang/Object"))) ∈ lw_all := lw_g (lw_at lw_m5 45 rfl) rfl
theorem q1077 : (Jvm.Cond.instanceMethod ({ cls := "BoatsCalledIn", name := "cell", desc := "(III)I" } : Jvm.MethodName)) ∈ lw_all := lw_g (lw_at lw_m5 48 rfl) rfl
theorem q1078 : (Jvm.Cond.selects "BoatsCalledIn" ({ cls := "BoatsCalledIn", name := "cell", desc := "(III)I" } : Jvm.MethodName) ({ cls := "BoatsCalledIn", name := "cell", desc := "(III)I" } : Jvm.MethodName)) ∈ lw_all := lw_g (lw_at lw_m5 49 rfl) rfl
theorem q1079 : (Jvm.Cond.codeWith ({ cls := "BoatsCalledIn", name := "cell", desc := "(III)I" } : Jvm.MethodName) prog_1_method_76_code (5 : Nat) (Option.some Jvm.ClassFile.FieldType.int) [((10 : Nat), (24 : Nat), (25 : Nat), (476 : Nat)), ((10 : Nat), (24 : Nat), (30 : Nat), (478 : Nat))]) ∈ lw_all := lw_g (lw_at lw_m5 50 rfl) rfl
theorem q1080 : (Jvm.Cond.classLink "BoatsCalledIn" (476 : Nat) "java/lang/NullPointerException") ∈ lw_all := lw_g (lw_at lw_m5 51 rfl) rfl
theorem q1117 : (Jvm.Cond.methodLink "BoatsCalledIn" (473 : Nat) ({ cls := "BoatsCalledIn", name := "put", desc := "(Ljava/lang/Object;II)I" } : Jvm.MethodName)) ∈ lw_all := lw_g (lw_at lw_m5 88 rfl) rfl
theorem q1118 : (Jvm.Cond.static ({ cls := "BoatsCalledIn", name := "put", desc := "(Ljava/lang/Object;II)I" } : Jvm.MethodName)) ∈ lw_all := lw_g (lw_at lw_m5 89 rfl) rfl
theorem q1119 : (Jvm.Cond.code ({ cls := "BoatsCalledIn", name := "put", desc := "(Ljava/lang/Object;II)I" } : Jvm.MethodName) prog_1_method_75_code (3 : Nat) (Option.some Jvm.ClassFile.FieldType.int)) ∈ lw_all := lw_g (lw_at lw_m5 90 rfl) rfl
theorem q1121 : (Jvm.Cond.instanceMethod ({ cls := "BoatsCalledIn", name := "copy", desc := "(IIIII)I" } : Jvm.MethodName)) ∈ lw_all := lw_g (lw_at lw_m5 92 rfl) rfl
theorem q1122 : (Jvm.Cond.selects "BoatsCalledIn" ({ cls := "BoatsCalledIn", name := "copy", desc := "(IIIII)I" } : Jvm.MethodName) ({ cls := "BoatsCalledIn", name := "copy", desc := "(IIIII)I" } : Jvm.MethodName)) ∈ lw_all := lw_g (lw_at lw_m5 93 rfl) rfl
theorem q1123 : (Jvm.Cond.code ({ cls := "BoatsCalledIn", name := "copy", desc := "(IIIII)I" } : Jvm.MethodName) prog_1_method_81_code (10 : Nat) (Option.some Jvm.ClassFile.FieldType.int)) ∈ lw_all := lw_g (lw_at lw_m5 94 rfl) rfl
theorem q1125 : (Jvm.Cond.instanceMethod ({ cls := "BoatsCalledIn", name := "boats", desc := "(IIII)I" } : Jvm.MethodName)) ∈ lw_all := lw_g (lw_at lw_m5 96 rfl) rfl
theorem q1126 : (Jvm.Cond.selects "BoatsCalledIn" ({ cls := "BoatsCalledIn", name := "boats", desc := "(IIII)I" } : Jvm.MethodName) ({ cls := "BoatsCalledIn", name := "boats", desc := "(IIII)I" } : Jvm.MethodName)) ∈ lw_all := lw_g (lw_at lw_m5 97 rfl) rfl
theorem q1127 : (Jvm.Cond.codeWith ({ cls := "BoatsCalledIn", name := "boats", desc := "(IIII)I" } : Jvm.MethodName) prog_1_method_83_code (6 : Nat) (Option.some Jvm.ClassFile.FieldType.int) [((35 : Nat), (52 : Nat), (53 : Nat), (487 : Nat)), ((35 : Nat), (52 : Nat), (58 : Nat), (476 : Nat)), ((35 : Nat), (52 : Nat), (63 : Nat), (478 : Nat))]) ∈ lw_all := lw_g (lw_at lw_m5 98 rfl) rfl
theorem q1128 : (Jvm.Cond.classLink "BoatsCalledIn" (487 : Nat) "java/lang/ClassCastException") ∈ lw_all := lw_g (lw_at lw_m5 99 rfl) rfl
theorem q1142 : (Jvm.Cond.methodLink "BoatsCalledIn" (483 : Nat) ({ cls := "BoatsCalledIn", name := "came", desc := "(Ljava/lang/Object;III)I" } : Jvm.MethodName)) ∈ lw_all := lw_g (lw_at lw_m5 113 rfl) rfl
theorem q1143 : (Jvm.Cond.privateMethod ({ cls := "BoatsCalledIn", name := "came", desc := "(Ljava/lang/Object;III)I" } : Jvm.MethodName)) ∈ lw_tbl := lw_at lw_m5 114 rfl
theorem q1144 : (Jvm.Cond.instanceMethod ({ cls := "BoatsCalledIn", name := "came", desc := "(Ljava/lang/Object;III)I" } : Jvm.MethodName)) ∈ lw_all := lw_g (lw_at lw_m5 115 rfl) rfl
theorem q1145 : (Jvm.Cond.code ({ cls := "BoatsCalledIn", name := "came", desc := "(Ljava/lang/Object;III)I" } : Jvm.MethodName) prog_1_method_82_code (10 : Nat) (Option.some Jvm.ClassFile.FieldType.int)) ∈ lw_all := lw_g (lw_at lw_m5 116 rfl) rfl
theorem q1146 : (Jvm.Cond.methodLink "BoatsCalledIn" (481 : Nat) ({ cls := "BoatsCalledIn", name := "boat", desc := "(III)I" } : Jvm.MethodName)) ∈ lw_all := lw_g (lw_at lw_m5 117 rfl) rfl
theorem q1148 : (Jvm.Cond.instanceMethod ({ cls := "BoatsCalledIn", name := "taken", desc := "(II)I" } : Jvm.MethodName)) ∈ lw_all := lw_g (lw_at lw_m5 119 rfl) rfl
theorem q1149 : (Jvm.Cond.selects "BoatsCalledIn" ({ cls := "BoatsCalledIn", name := "taken", desc := "(II)I" } : Jvm.MethodName) ({ cls := "BoatsCalledIn", name := "taken", desc := "(II)I" } : Jvm.MethodName)) ∈ lw_all := lw_g (lw_at lw_m5 120 rfl) rfl
theorem q1150 : (Jvm.Cond.codeWith ({ cls := "BoatsCalledIn", name := "taken", desc := "(II)I" } : Jvm.MethodName) prog_1_method_85_code (4 : Nat) (Option.some Jvm.ClassFile.FieldType.int) [((15 : Nat), (40 : Nat), (41 : Nat), (476 : Nat)), ((15 : Nat), (40 : Nat), (45 : Nat), (487 : Nat))]) ∈ lw_all := lw_g (lw_at lw_m5 121 rfl) rfl
theorem q1151 : (Jvm.Cond.methodLink "BoatsCalledIn" (489 : Nat) ({ cls := "BoatsCalledIn", name := "as", desc := "(LBoatsCalledIn$Boat;I)LBoatsCalledIn$Boat;" } : Jvm.MethodName)) ∈ lw_all := lw_g (lw_at lw_m5 122 rfl) rfl
theorem q1152 : (Jvm.Cond.static ({ cls := "BoatsCalledIn", name := "as", desc := "(LBoatsCalledIn$Boat;I)LBoatsCalledIn$Boat;" } : Jvm.MethodName)) ∈ lw_all := lw_g (lw_at lw_m5 123 rfl) rfl
theorem q1153 : (Jvm.Cond.code ({ cls := "BoatsCalledIn", name := "as", desc := "(LBoatsCalledIn$Boat;I)LBoatsCalledIn$Boat;" } : Jvm.MethodName) prog_1_method_84_code (2 : Nat) (Option.some (Jvm.ClassFile.FieldType.object "BoatsCalledIn$Boat"))) ∈ lw_all := lw_g (lw_at lw_m5 124 rfl) rfl
theorem in_X0 : ∀ w ∈ wsX00, w ∈ lw_all := lw_in wsX00 [786, 788, 790, 792, 794, 796, 798, 800, 802, 804, 806, 808, 810, 812, 814, 816, 818, 820, 822, 824, 826, 828, 830, 832, 834, 836, 838, 840, 842, 844, 846, 848, 850, 852, 854] (by decide +kernel) (by decide +kernel)
