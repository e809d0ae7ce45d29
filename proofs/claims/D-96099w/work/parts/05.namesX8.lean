/-! BoatsCalledInModel -/
set_option maxRecDepth 100000
def RX8 : String := "BoatsCalledInModel"
def TX8 : u_T := fun k => match k with
  | 0 => ("BoatsCalledInModel", "boats", "I", false)
  | 1 => ("BoatsCalledInModel", "kind", "[I", true)
  | 2 => ("BoatsCalledInModel", "number", "[I", true)
  | 3 => ("BoatsCalledInModel", "cell", "[I", true)
  | 4 => ("BoatsCalledInModel", "out", "[I", true)
  | 5 => ("BoatsCalledInModel", "paid", "[I", true)
  | 6 => ("BoatsCalledInModel", "how", "[I", true)
  | 7 => ("BoatsCalledInModel", "when", "[I", true)
  | 8 => ("BoatsCalledInModel", "island", "I", false)
  | 9 => ("BoatsCalledInModel", "wind", "I", false)
  | 10 => ("BoatsCalledInModel", "minute", "I", false)
  | 11 => ("BoatsCalledInModel", "tows", "I", false)
  | 12 => ("BoatsCalledInModel", "speed", "I", false)
  | 13 => ("BoatsCalledInModel", "waiting", "I", false)
  | 14 => ("BoatsCalledInModel", "takings", "I", false)
  | 15 => ("BoatsCalledInModel", "taped", "I", false)
  | 16 => ("BoatsCalledInModel", "tape", "[I", true)
  | 17 => ("BoatsCalledInModel", "texts", "I", false)
  | 18 => ("BoatsCalledInModel", "rule", "I", false)
  | 19 => ("BoatsCalledInModel", "code", "[I", true)
  | 20 => ("BoatsCalledInModel", "begins", "[I", true)
  | 21 => ("BoatsCalledInModel", "made", "I", false)
  | 22 => ("BoatsCalledInModel", "at", "I", false)
  | 23 => ("BoatsCalledInModel", "from", "I", false)
  | 24 => ("BoatsCalledInModel", "sort", "I", false)
  | 25 => ("BoatsCalledInModel", "value", "I", false)
  | 26 => ("BoatsCalledInModel", "open", "I", false)
  | 27 => ("BoatsCalledInModel", "stack", "[I", true)
  | 28 => ("BoatsCalledInModel", "names", "[I", true)
  | 29 => ("BoatsCalledInModel", "fewest", "I", false)
  | 30 => ("BoatsCalledInModel", "order", "[I", true)
  | 31 => ("BoatsCalledInModel", "first", "[I", true)
  | 32 => ("BoatsCalledInModel", "minutes", "[I", true)
  | 33 => ("BoatsCalledInModel", "imaged", "Z", false)
  | 34 => ("BoatsCalledInModel", "oldBoats", "I", false)
  | 35 => ("BoatsCalledInModel", "old", "[I", true)
  | 36 => ("BoatsCalledInModel", "sheetSort", "[I", true)
  | 37 => ("BoatsCalledInModel", "sheetSize", "[I", true)
  | 38 => ("BoatsCalledInModel", "items", "[I", true)
  | _ => ("BoatsCalledInModel", "spare", "[I", true)
def tyX8 : Nat → FieldType := fun k => match k with
  | 0 => .int
  | 1 => .array .int
  | 2 => .array .int
  | 3 => .array .int
  | 4 => .array .int
  | 5 => .array .int
  | 6 => .array .int
  | 7 => .array .int
  | 8 => .int
  | 9 => .int
  | 10 => .int
  | 11 => .int
  | 12 => .int
  | 13 => .int
  | 14 => .int
  | 15 => .int
  | 16 => .array .int
  | 17 => .int
  | 18 => .int
  | 19 => .array .int
  | 20 => .array .int
  | 21 => .int
  | 22 => .int
  | 23 => .int
  | 24 => .int
  | 25 => .int
  | 26 => .int
  | 27 => .array .int
  | 28 => .array .int
  | 29 => .int
  | 30 => .array .int
  | 31 => .array .int
  | 32 => .array .int
  | 33 => .boolean
  | 34 => .int
  | 35 => .array .int
  | 36 => .array .int
  | 37 => .array .int
  | 38 => .array .int
  | _ => .array .int
abbrev wsX80 : List Cond := u_ws RX8 TX8 40
set_option maxRecDepth 100000 in
theorem nmX8 : ∀ a, a < 40 → ∀ b, b < 40 → a ≠ b → (TX8 a).2.1 ≠ (TX8 b).2.1 := by decide +kernel
set_option maxRecDepth 100000 in
theorem tyX8_ok : ∀ k, k < 40 → parseFieldDescriptor (TX8 k).2.2.1 = some (tyX8 k) := by decide +kernel
abbrev cX8_init : ByteArray := prog_16_method_1_code
def yX8_init : MethodName := ⟨RX8, "<init>", "()V"⟩
def dkwX8_init_10 : List UInt8 := [182, 0, 96, 87, 177]
abbrev dktX8_init_10 : List UInt8 := dkwX8_init_10 ++ []
def dkwX8_init_9 : List UInt8 := [182, 0, 82, 162, 0, 19, 42, 43, 28, 182, 0, 88, 182, 0, 92, 87, 132, 2, 1, 167, 255, 235, 42]
abbrev dktX8_init_9 : List UInt8 := dkwX8_init_9 ++ dktX8_init_10
def dkwX8_init_8 : List UInt8 := [16, 27, 181, 0, 70, 42, 5, 181, 0, 74, 42, 4, 181, 0, 77, 18, 80, 76, 3, 61, 28, 43]
abbrev dktX8_init_8 : List UInt8 := dkwX8_init_8 ++ dktX8_init_9
def dkwX8_init_7 : List UInt8 := [181, 0, 67, 3, 60, 27, 7, 162, 0, 16, 42, 180, 0, 58, 27, 2, 79, 132, 1, 1, 167, 255, 241, 42]
abbrev dktX8_init_7 : List UInt8 := dkwX8_init_7 ++ dktX8_init_8
def dkwX8_init_6 : List UInt8 := [181, 0, 58, 42, 7, 188, 10, 181, 0, 61, 42, 17, 0, 160, 188, 10, 181, 0, 64, 42, 16, 40, 188, 10]
abbrev dktX8_init_6 : List UInt8 := dkwX8_init_6 ++ dktX8_init_7
def dkwX8_init_5 : List UInt8 := [181, 0, 49, 42, 16, 7, 188, 10, 181, 0, 52, 42, 16, 50, 188, 10, 181, 0, 55, 42, 7, 188, 10]
abbrev dktX8_init_5 : List UInt8 := dkwX8_init_5 ++ dktX8_init_6
def dkwX8_init_4 : List UInt8 := [181, 0, 40, 42, 16, 6, 188, 10, 181, 0, 43, 42, 16, 7, 188, 10, 181, 0, 46, 42, 16, 7, 188, 10]
abbrev dktX8_init_4 : List UInt8 := dkwX8_init_4 ++ dktX8_init_5
def dkwX8_init_3 : List UInt8 := [17, 3, 252, 188, 10, 181, 0, 34, 42, 16, 24, 188, 10, 181, 0, 37, 42, 17, 0, 170, 188, 10]
abbrev dktX8_init_3 : List UInt8 := dkwX8_init_3 ++ dktX8_init_4
def dkwX8_init_2 : List UInt8 := [188, 10, 181, 0, 25, 42, 16, 7, 188, 10, 181, 0, 28, 42, 17, 0, 160, 188, 10, 181, 0, 31, 42]
abbrev dktX8_init_2 : List UInt8 := dkwX8_init_2 ++ dktX8_init_3
def dkwX8_init_1 : List UInt8 := [188, 10, 181, 0, 16, 42, 16, 7, 188, 10, 181, 0, 19, 42, 16, 7, 188, 10, 181, 0, 22, 42, 16, 7]
abbrev dktX8_init_1 : List UInt8 := dkwX8_init_1 ++ dktX8_init_2
def dkwX8_init_0 : List UInt8 := [42, 183, 0, 1, 42, 16, 7, 188, 10, 181, 0, 7, 42, 16, 7, 188, 10, 181, 0, 13, 42, 16, 7]
abbrev dktX8_init_0 : List UInt8 := dkwX8_init_0 ++ dktX8_init_1
theorem dksX8_init_0 : cX8_init.data.toList.drop 0 = dktX8_init_0 := by decide +kernel
theorem dksX8_init_1 : cX8_init.data.toList.drop 23 = dktX8_init_1 := dk_seg dksX8_init_0 23 rfl rfl
theorem dksX8_init_2 : cX8_init.data.toList.drop 47 = dktX8_init_2 := dk_seg dksX8_init_1 24 rfl rfl
theorem dksX8_init_3 : cX8_init.data.toList.drop 70 = dktX8_init_3 := dk_seg dksX8_init_2 23 rfl rfl
theorem dksX8_init_4 : cX8_init.data.toList.drop 92 = dktX8_init_4 := dk_seg dksX8_init_3 22 rfl rfl
theorem dksX8_init_5 : cX8_init.data.toList.drop 116 = dktX8_init_5 := dk_seg dksX8_init_4 24 rfl rfl
theorem dksX8_init_6 : cX8_init.data.toList.drop 139 = dktX8_init_6 := dk_seg dksX8_init_5 23 rfl rfl
theorem dksX8_init_7 : cX8_init.data.toList.drop 163 = dktX8_init_7 := dk_seg dksX8_init_6 24 rfl rfl
theorem dksX8_init_8 : cX8_init.data.toList.drop 187 = dktX8_init_8 := dk_seg dksX8_init_7 24 rfl rfl
theorem dksX8_init_9 : cX8_init.data.toList.drop 209 = dktX8_init_9 := dk_seg dksX8_init_8 22 rfl rfl
theorem dksX8_init_10 : cX8_init.data.toList.drop 232 = dktX8_init_10 := dk_seg dksX8_init_9 23 rfl rfl
theorem dX8_init_0 : decode cX8_init 0 = .ok (.aload_n 0, 1) := dk_42 (dk_at dksX8_init_0 0 rfl rfl)
theorem dX8_init_1 : decode cX8_init 1 = .ok (.invokespecial 1, 3) := dk_183 0 1 (dk_at dksX8_init_0 1 rfl rfl)
theorem dX8_init_4 : decode cX8_init 4 = .ok (.aload_n 0, 1) := dk_42 (dk_at dksX8_init_0 4 rfl rfl)
theorem dX8_init_5 : decode cX8_init 5 = .ok (.bipush 7, 2) := dk_16 7 (dk_at dksX8_init_0 5 rfl rfl)
theorem dX8_init_7 : decode cX8_init 7 = .ok (.newarray .int, 2) := dk_188_10 (dk_at dksX8_init_0 7 rfl rfl)
theorem dX8_init_9 : decode cX8_init 9 = .ok (.putfield 7, 3) := dk_181 0 7 (dk_at dksX8_init_0 9 rfl rfl)
theorem dX8_init_12 : decode cX8_init 12 = .ok (.aload_n 0, 1) := dk_42 (dk_at dksX8_init_0 12 rfl rfl)
theorem dX8_init_13 : decode cX8_init 13 = .ok (.bipush 7, 2) := dk_16 7 (dk_at dksX8_init_0 13 rfl rfl)
theorem dX8_init_15 : decode cX8_init 15 = .ok (.newarray .int, 2) := dk_188_10 (dk_at dksX8_init_0 15 rfl rfl)
theorem dX8_init_17 : decode cX8_init 17 = .ok (.putfield 13, 3) := dk_181 0 13 (dk_at dksX8_init_0 17 rfl rfl)
theorem dX8_init_20 : decode cX8_init 20 = .ok (.aload_n 0, 1) := dk_42 (dk_at dksX8_init_0 20 rfl rfl)
theorem dX8_init_21 : decode cX8_init 21 = .ok (.bipush 7, 2) := dk_16 7 (dk_at dksX8_init_0 21 rfl rfl)
theorem dX8_init_23 : decode cX8_init 23 = .ok (.newarray .int, 2) := dk_188_10 (dk_at dksX8_init_1 0 rfl rfl)
theorem dX8_init_25 : decode cX8_init 25 = .ok (.putfield 16, 3) := dk_181 0 16 (dk_at dksX8_init_1 2 rfl rfl)
theorem dX8_init_28 : decode cX8_init 28 = .ok (.aload_n 0, 1) := dk_42 (dk_at dksX8_init_1 5 rfl rfl)
theorem dX8_init_29 : decode cX8_init 29 = .ok (.bipush 7, 2) := dk_16 7 (dk_at dksX8_init_1 6 rfl rfl)
theorem dX8_init_31 : decode cX8_init 31 = .ok (.newarray .int, 2) := dk_188_10 (dk_at dksX8_init_1 8 rfl rfl)
theorem dX8_init_33 : decode cX8_init 33 = .ok (.putfield 19, 3) := dk_181 0 19 (dk_at dksX8_init_1 10 rfl rfl)
theorem dX8_init_36 : decode cX8_init 36 = .ok (.aload_n 0, 1) := dk_42 (dk_at dksX8_init_1 13 rfl rfl)
theorem dX8_init_37 : decode cX8_init 37 = .ok (.bipush 7, 2) := dk_16 7 (dk_at dksX8_init_1 14 rfl rfl)
theorem dX8_init_39 : decode cX8_init 39 = .ok (.newarray .int, 2) := dk_188_10 (dk_at dksX8_init_1 16 rfl rfl)
theorem dX8_init_41 : decode cX8_init 41 = .ok (.putfield 22, 3) := dk_181 0 22 (dk_at dksX8_init_1 18 rfl rfl)
theorem dX8_init_44 : decode cX8_init 44 = .ok (.aload_n 0, 1) := dk_42 (dk_at dksX8_init_1 21 rfl rfl)
theorem dX8_init_45 : decode cX8_init 45 = .ok (.bipush 7, 2) := dk_16 7 (dk_at dksX8_init_1 22 rfl rfl)
theorem dX8_init_47 : decode cX8_init 47 = .ok (.newarray .int, 2) := dk_188_10 (dk_at dksX8_init_2 0 rfl rfl)
theorem dX8_init_49 : decode cX8_init 49 = .ok (.putfield 25, 3) := dk_181 0 25 (dk_at dksX8_init_2 2 rfl rfl)
theorem dX8_init_52 : decode cX8_init 52 = .ok (.aload_n 0, 1) := dk_42 (dk_at dksX8_init_2 5 rfl rfl)
theorem dX8_init_53 : decode cX8_init 53 = .ok (.bipush 7, 2) := dk_16 7 (dk_at dksX8_init_2 6 rfl rfl)
theorem dX8_init_55 : decode cX8_init 55 = .ok (.newarray .int, 2) := dk_188_10 (dk_at dksX8_init_2 8 rfl rfl)
theorem dX8_init_57 : decode cX8_init 57 = .ok (.putfield 28, 3) := dk_181 0 28 (dk_at dksX8_init_2 10 rfl rfl)
theorem dX8_init_60 : decode cX8_init 60 = .ok (.aload_n 0, 1) := dk_42 (dk_at dksX8_init_2 13 rfl rfl)
theorem dX8_init_61 : decode cX8_init 61 = .ok (.sipush 160, 3) := dk_17 0 160 (dk_at dksX8_init_2 14 rfl rfl)
theorem dX8_init_64 : decode cX8_init 64 = .ok (.newarray .int, 2) := dk_188_10 (dk_at dksX8_init_2 17 rfl rfl)
theorem dX8_init_66 : decode cX8_init 66 = .ok (.putfield 31, 3) := dk_181 0 31 (dk_at dksX8_init_2 19 rfl rfl)
theorem dX8_init_69 : decode cX8_init 69 = .ok (.aload_n 0, 1) := dk_42 (dk_at dksX8_init_2 22 rfl rfl)
theorem dX8_init_70 : decode cX8_init 70 = .ok (.sipush 1020, 3) := dk_17 3 252 (dk_at dksX8_init_3 0 rfl rfl)
theorem dX8_init_73 : decode cX8_init 73 = .ok (.newarray .int, 2) := dk_188_10 (dk_at dksX8_init_3 3 rfl rfl)
theorem dX8_init_75 : decode cX8_init 75 = .ok (.putfield 34, 3) := dk_181 0 34 (dk_at dksX8_init_3 5 rfl rfl)
theorem dX8_init_78 : decode cX8_init 78 = .ok (.aload_n 0, 1) := dk_42 (dk_at dksX8_init_3 8 rfl rfl)
theorem dX8_init_79 : decode cX8_init 79 = .ok (.bipush 24, 2) := dk_16 24 (dk_at dksX8_init_3 9 rfl rfl)
theorem dX8_init_81 : decode cX8_init 81 = .ok (.newarray .int, 2) := dk_188_10 (dk_at dksX8_init_3 11 rfl rfl)
theorem dX8_init_83 : decode cX8_init 83 = .ok (.putfield 37, 3) := dk_181 0 37 (dk_at dksX8_init_3 13 rfl rfl)
theorem dX8_init_86 : decode cX8_init 86 = .ok (.aload_n 0, 1) := dk_42 (dk_at dksX8_init_3 16 rfl rfl)
theorem dX8_init_87 : decode cX8_init 87 = .ok (.sipush 170, 3) := dk_17 0 170 (dk_at dksX8_init_3 17 rfl rfl)
theorem dX8_init_90 : decode cX8_init 90 = .ok (.newarray .int, 2) := dk_188_10 (dk_at dksX8_init_3 20 rfl rfl)
theorem dX8_init_92 : decode cX8_init 92 = .ok (.putfield 40, 3) := dk_181 0 40 (dk_at dksX8_init_4 0 rfl rfl)
theorem dX8_init_95 : decode cX8_init 95 = .ok (.aload_n 0, 1) := dk_42 (dk_at dksX8_init_4 3 rfl rfl)
theorem dX8_init_96 : decode cX8_init 96 = .ok (.bipush 6, 2) := dk_16 6 (dk_at dksX8_init_4 4 rfl rfl)
theorem dX8_init_98 : decode cX8_init 98 = .ok (.newarray .int, 2) := dk_188_10 (dk_at dksX8_init_4 6 rfl rfl)
theorem dX8_init_100 : decode cX8_init 100 = .ok (.putfield 43, 3) := dk_181 0 43 (dk_at dksX8_init_4 8 rfl rfl)
theorem dX8_init_103 : decode cX8_init 103 = .ok (.aload_n 0, 1) := dk_42 (dk_at dksX8_init_4 11 rfl rfl)
theorem dX8_init_104 : decode cX8_init 104 = .ok (.bipush 7, 2) := dk_16 7 (dk_at dksX8_init_4 12 rfl rfl)
theorem dX8_init_106 : decode cX8_init 106 = .ok (.newarray .int, 2) := dk_188_10 (dk_at dksX8_init_4 14 rfl rfl)
theorem dX8_init_108 : decode cX8_init 108 = .ok (.putfield 46, 3) := dk_181 0 46 (dk_at dksX8_init_4 16 rfl rfl)
theorem dX8_init_111 : decode cX8_init 111 = .ok (.aload_n 0, 1) := dk_42 (dk_at dksX8_init_4 19 rfl rfl)
theorem dX8_init_112 : decode cX8_init 112 = .ok (.bipush 7, 2) := dk_16 7 (dk_at dksX8_init_4 20 rfl rfl)
theorem dX8_init_114 : decode cX8_init 114 = .ok (.newarray .int, 2) := dk_188_10 (dk_at dksX8_init_4 22 rfl rfl)
theorem dX8_init_116 : decode cX8_init 116 = .ok (.putfield 49, 3) := dk_181 0 49 (dk_at dksX8_init_5 0 rfl rfl)
theorem dX8_init_119 : decode cX8_init 119 = .ok (.aload_n 0, 1) := dk_42 (dk_at dksX8_init_5 3 rfl rfl)
theorem dX8_init_120 : decode cX8_init 120 = .ok (.bipush 7, 2) := dk_16 7 (dk_at dksX8_init_5 4 rfl rfl)
theorem dX8_init_122 : decode cX8_init 122 = .ok (.newarray .int, 2) := dk_188_10 (dk_at dksX8_init_5 6 rfl rfl)
theorem dX8_init_124 : decode cX8_init 124 = .ok (.putfield 52, 3) := dk_181 0 52 (dk_at dksX8_init_5 8 rfl rfl)
theorem dX8_init_127 : decode cX8_init 127 = .ok (.aload_n 0, 1) := dk_42 (dk_at dksX8_init_5 11 rfl rfl)
theorem dX8_init_128 : decode cX8_init 128 = .ok (.bipush 50, 2) := dk_16 50 (dk_at dksX8_init_5 12 rfl rfl)
theorem dX8_init_130 : decode cX8_init 130 = .ok (.newarray .int, 2) := dk_188_10 (dk_at dksX8_init_5 14 rfl rfl)
theorem dX8_init_132 : decode cX8_init 132 = .ok (.putfield 55, 3) := dk_181 0 55 (dk_at dksX8_init_5 16 rfl rfl)
theorem dX8_init_135 : decode cX8_init 135 = .ok (.aload_n 0, 1) := dk_42 (dk_at dksX8_init_5 19 rfl rfl)
theorem dX8_init_136 : decode cX8_init 136 = .ok (.iconst 4, 1) := dk_7 (dk_at dksX8_init_5 20 rfl rfl)
theorem dX8_init_137 : decode cX8_init 137 = .ok (.newarray .int, 2) := dk_188_10 (dk_at dksX8_init_5 21 rfl rfl)
theorem dX8_init_139 : decode cX8_init 139 = .ok (.putfield 58, 3) := dk_181 0 58 (dk_at dksX8_init_6 0 rfl rfl)
theorem dX8_init_142 : decode cX8_init 142 = .ok (.aload_n 0, 1) := dk_42 (dk_at dksX8_init_6 3 rfl rfl)
theorem dX8_init_143 : decode cX8_init 143 = .ok (.iconst 4, 1) := dk_7 (dk_at dksX8_init_6 4 rfl rfl)
theorem dX8_init_144 : decode cX8_init 144 = .ok (.newarray .int, 2) := dk_188_10 (dk_at dksX8_init_6 5 rfl rfl)
theorem dX8_init_146 : decode cX8_init 146 = .ok (.putfield 61, 3) := dk_181 0 61 (dk_at dksX8_init_6 7 rfl rfl)
theorem dX8_init_149 : decode cX8_init 149 = .ok (.aload_n 0, 1) := dk_42 (dk_at dksX8_init_6 10 rfl rfl)
theorem dX8_init_150 : decode cX8_init 150 = .ok (.sipush 160, 3) := dk_17 0 160 (dk_at dksX8_init_6 11 rfl rfl)
theorem dX8_init_153 : decode cX8_init 153 = .ok (.newarray .int, 2) := dk_188_10 (dk_at dksX8_init_6 14 rfl rfl)
theorem dX8_init_155 : decode cX8_init 155 = .ok (.putfield 64, 3) := dk_181 0 64 (dk_at dksX8_init_6 16 rfl rfl)
theorem dX8_init_158 : decode cX8_init 158 = .ok (.aload_n 0, 1) := dk_42 (dk_at dksX8_init_6 19 rfl rfl)
theorem dX8_init_159 : decode cX8_init 159 = .ok (.bipush 40, 2) := dk_16 40 (dk_at dksX8_init_6 20 rfl rfl)
theorem dX8_init_161 : decode cX8_init 161 = .ok (.newarray .int, 2) := dk_188_10 (dk_at dksX8_init_6 22 rfl rfl)
theorem dX8_init_163 : decode cX8_init 163 = .ok (.putfield 67, 3) := dk_181 0 67 (dk_at dksX8_init_7 0 rfl rfl)
theorem dX8_init_166 : decode cX8_init 166 = .ok (.iconst 0, 1) := dk_3 (dk_at dksX8_init_7 3 rfl rfl)
theorem dX8_init_167 : decode cX8_init 167 = .ok (.istore_n 1, 1) := dk_60 (dk_at dksX8_init_7 4 rfl rfl)
theorem dX8_init_168 : decode cX8_init 168 = .ok (.iload_n 1, 1) := dk_27 (dk_at dksX8_init_7 5 rfl rfl)
theorem dX8_init_169 : decode cX8_init 169 = .ok (.iconst 4, 1) := dk_7 (dk_at dksX8_init_7 6 rfl rfl)
theorem dX8_init_170 : decode cX8_init 170 = .ok (.if_icmp .ge 16, 3) := dk_162 0 16 (dk_at dksX8_init_7 7 rfl rfl)
theorem dX8_init_173 : decode cX8_init 173 = .ok (.aload_n 0, 1) := dk_42 (dk_at dksX8_init_7 10 rfl rfl)
theorem dX8_init_174 : decode cX8_init 174 = .ok (.getfield 58, 3) := dk_180 0 58 (dk_at dksX8_init_7 11 rfl rfl)
theorem dX8_init_177 : decode cX8_init 177 = .ok (.iload_n 1, 1) := dk_27 (dk_at dksX8_init_7 14 rfl rfl)
theorem dX8_init_178 : decode cX8_init 178 = .ok (.iconst (-1), 1) := dk_2 (dk_at dksX8_init_7 15 rfl rfl)
theorem dX8_init_179 : decode cX8_init 179 = .ok (.iastore, 1) := dk_79 (dk_at dksX8_init_7 16 rfl rfl)
theorem dX8_init_180 : decode cX8_init 180 = .ok (.iinc 1 1, 3) := dk_132 1 1 (dk_at dksX8_init_7 17 rfl rfl)
theorem dX8_init_183 : decode cX8_init 183 = .ok (.goto (-15), 3) := dk_167 255 241 (dk_at dksX8_init_7 20 rfl rfl)
theorem dX8_init_186 : decode cX8_init 186 = .ok (.aload_n 0, 1) := dk_42 (dk_at dksX8_init_7 23 rfl rfl)
theorem dX8_init_187 : decode cX8_init 187 = .ok (.bipush 27, 2) := dk_16 27 (dk_at dksX8_init_8 0 rfl rfl)
theorem dX8_init_189 : decode cX8_init 189 = .ok (.putfield 70, 3) := dk_181 0 70 (dk_at dksX8_init_8 2 rfl rfl)
theorem dX8_init_192 : decode cX8_init 192 = .ok (.aload_n 0, 1) := dk_42 (dk_at dksX8_init_8 5 rfl rfl)
theorem dX8_init_193 : decode cX8_init 193 = .ok (.iconst 2, 1) := dk_5 (dk_at dksX8_init_8 6 rfl rfl)
theorem dX8_init_194 : decode cX8_init 194 = .ok (.putfield 74, 3) := dk_181 0 74 (dk_at dksX8_init_8 7 rfl rfl)
theorem dX8_init_197 : decode cX8_init 197 = .ok (.aload_n 0, 1) := dk_42 (dk_at dksX8_init_8 10 rfl rfl)
theorem dX8_init_198 : decode cX8_init 198 = .ok (.iconst 1, 1) := dk_4 (dk_at dksX8_init_8 11 rfl rfl)
theorem dX8_init_199 : decode cX8_init 199 = .ok (.putfield 77, 3) := dk_181 0 77 (dk_at dksX8_init_8 12 rfl rfl)
theorem dX8_init_202 : decode cX8_init 202 = .ok (.ldc 80, 2) := dk_18 80 (dk_at dksX8_init_8 15 rfl rfl)
theorem dX8_init_204 : decode cX8_init 204 = .ok (.astore_n 1, 1) := dk_76 (dk_at dksX8_init_8 17 rfl rfl)
theorem dX8_init_205 : decode cX8_init 205 = .ok (.iconst 0, 1) := dk_3 (dk_at dksX8_init_8 18 rfl rfl)
theorem dX8_init_206 : decode cX8_init 206 = .ok (.istore_n 2, 1) := dk_61 (dk_at dksX8_init_8 19 rfl rfl)
theorem dX8_init_207 : decode cX8_init 207 = .ok (.iload_n 2, 1) := dk_28 (dk_at dksX8_init_8 20 rfl rfl)
theorem dX8_init_208 : decode cX8_init 208 = .ok (.aload_n 1, 1) := dk_43 (dk_at dksX8_init_8 21 rfl rfl)
theorem dX8_init_209 : decode cX8_init 209 = .ok (.invokevirtual 82, 3) := dk_182 0 82 (dk_at dksX8_init_9 0 rfl rfl)
theorem dX8_init_212 : decode cX8_init 212 = .ok (.if_icmp .ge 19, 3) := dk_162 0 19 (dk_at dksX8_init_9 3 rfl rfl)
theorem dX8_init_215 : decode cX8_init 215 = .ok (.aload_n 0, 1) := dk_42 (dk_at dksX8_init_9 6 rfl rfl)
theorem dX8_init_216 : decode cX8_init 216 = .ok (.aload_n 1, 1) := dk_43 (dk_at dksX8_init_9 7 rfl rfl)
theorem dX8_init_217 : decode cX8_init 217 = .ok (.iload_n 2, 1) := dk_28 (dk_at dksX8_init_9 8 rfl rfl)
theorem dX8_init_218 : decode cX8_init 218 = .ok (.invokevirtual 88, 3) := dk_182 0 88 (dk_at dksX8_init_9 9 rfl rfl)
theorem dX8_init_221 : decode cX8_init 221 = .ok (.invokevirtual 92, 3) := dk_182 0 92 (dk_at dksX8_init_9 12 rfl rfl)
theorem dX8_init_224 : decode cX8_init 224 = .ok (.pop, 1) := dk_87 (dk_at dksX8_init_9 15 rfl rfl)
theorem dX8_init_225 : decode cX8_init 225 = .ok (.iinc 2 1, 3) := dk_132 2 1 (dk_at dksX8_init_9 16 rfl rfl)
theorem dX8_init_228 : decode cX8_init 228 = .ok (.goto (-21), 3) := dk_167 255 235 (dk_at dksX8_init_9 19 rfl rfl)
theorem dX8_init_231 : decode cX8_init 231 = .ok (.aload_n 0, 1) := dk_42 (dk_at dksX8_init_9 22 rfl rfl)
theorem dX8_init_232 : decode cX8_init 232 = .ok (.invokevirtual 96, 3) := dk_182 0 96 (dk_at dksX8_init_10 0 rfl rfl)
theorem dX8_init_235 : decode cX8_init 235 = .ok (.pop, 1) := dk_87 (dk_at dksX8_init_10 3 rfl rfl)
theorem dX8_init_236 : decode cX8_init 236 = .ok (.return_, 1) := dk_177 (dk_at dksX8_init_10 4 rfl rfl)
abbrev cX8_feed : ByteArray := prog_16_method_15_code
def yX8_feed : MethodName := ⟨RX8, "feed", "(I)I"⟩
def dkwX8_feed_2 : List UInt8 := [172]
abbrev dktX8_feed_2 : List UInt8 := dkwX8_feed_2 ++ []
def dkwX8_feed_1 : List UInt8 := [16, 252, 172, 42, 180, 0, 31, 42, 89, 180, 0, 156, 90, 4, 96, 181, 0, 156, 27, 79, 42, 180, 0, 156]
abbrev dktX8_feed_1 : List UInt8 := dkwX8_feed_1 ++ dktX8_feed_2
def dkwX8_feed_0 : List UInt8 := [27, 3, 17, 0, 255, 184, 0, 102, 154, 0, 6, 16, 254, 172, 42, 180, 0, 156, 17, 0, 160, 160, 0, 6]
abbrev dktX8_feed_0 : List UInt8 := dkwX8_feed_0 ++ dktX8_feed_1
theorem dksX8_feed_0 : cX8_feed.data.toList.drop 0 = dktX8_feed_0 := by decide +kernel
theorem dksX8_feed_1 : cX8_feed.data.toList.drop 24 = dktX8_feed_1 := dk_seg dksX8_feed_0 24 rfl rfl
theorem dksX8_feed_2 : cX8_feed.data.toList.drop 48 = dktX8_feed_2 := dk_seg dksX8_feed_1 24 rfl rfl
theorem dX8_feed_0 : decode cX8_feed 0 = .ok (.iload_n 1, 1) := dk_27 (dk_at dksX8_feed_0 0 rfl rfl)
theorem dX8_feed_1 : decode cX8_feed 1 = .ok (.iconst 0, 1) := dk_3 (dk_at dksX8_feed_0 1 rfl rfl)
theorem dX8_feed_2 : decode cX8_feed 2 = .ok (.sipush 255, 3) := dk_17 0 255 (dk_at dksX8_feed_0 2 rfl rfl)
theorem dX8_feed_5 : decode cX8_feed 5 = .ok (.invokestatic 102, 3) := dk_184 0 102 (dk_at dksX8_feed_0 5 rfl rfl)
theorem dX8_feed_8 : decode cX8_feed 8 = .ok (.ifCond .ne 6, 3) := dk_154 0 6 (dk_at dksX8_feed_0 8 rfl rfl)
theorem dX8_feed_11 : decode cX8_feed 11 = .ok (.bipush (-2), 2) := dk_16 254 (dk_at dksX8_feed_0 11 rfl rfl)
theorem dX8_feed_13 : decode cX8_feed 13 = .ok (.ireturn, 1) := dk_172 (dk_at dksX8_feed_0 13 rfl rfl)
theorem dX8_feed_14 : decode cX8_feed 14 = .ok (.aload_n 0, 1) := dk_42 (dk_at dksX8_feed_0 14 rfl rfl)
theorem dX8_feed_15 : decode cX8_feed 15 = .ok (.getfield 156, 3) := dk_180 0 156 (dk_at dksX8_feed_0 15 rfl rfl)
theorem dX8_feed_18 : decode cX8_feed 18 = .ok (.sipush 160, 3) := dk_17 0 160 (dk_at dksX8_feed_0 18 rfl rfl)
theorem dX8_feed_21 : decode cX8_feed 21 = .ok (.if_icmp .ne 6, 3) := dk_160 0 6 (dk_at dksX8_feed_0 21 rfl rfl)
theorem dX8_feed_24 : decode cX8_feed 24 = .ok (.bipush (-4), 2) := dk_16 252 (dk_at dksX8_feed_1 0 rfl rfl)
theorem dX8_feed_26 : decode cX8_feed 26 = .ok (.ireturn, 1) := dk_172 (dk_at dksX8_feed_1 2 rfl rfl)
theorem dX8_feed_27 : decode cX8_feed 27 = .ok (.aload_n 0, 1) := dk_42 (dk_at dksX8_feed_1 3 rfl rfl)
theorem dX8_feed_28 : decode cX8_feed 28 = .ok (.getfield 31, 3) := dk_180 0 31 (dk_at dksX8_feed_1 4 rfl rfl)
theorem dX8_feed_31 : decode cX8_feed 31 = .ok (.aload_n 0, 1) := dk_42 (dk_at dksX8_feed_1 7 rfl rfl)
theorem dX8_feed_32 : decode cX8_feed 32 = .ok (.dup, 1) := dk_89 (dk_at dksX8_feed_1 8 rfl rfl)
theorem dX8_feed_33 : decode cX8_feed 33 = .ok (.getfield 156, 3) := dk_180 0 156 (dk_at dksX8_feed_1 9 rfl rfl)
theorem dX8_feed_36 : decode cX8_feed 36 = .ok (.dup_x1, 1) := dk_90 (dk_at dksX8_feed_1 12 rfl rfl)
theorem dX8_feed_37 : decode cX8_feed 37 = .ok (.iconst 1, 1) := dk_4 (dk_at dksX8_feed_1 13 rfl rfl)
theorem dX8_feed_38 : decode cX8_feed 38 = .ok (.iadd, 1) := dk_96 (dk_at dksX8_feed_1 14 rfl rfl)
theorem dX8_feed_39 : decode cX8_feed 39 = .ok (.putfield 156, 3) := dk_181 0 156 (dk_at dksX8_feed_1 15 rfl rfl)
theorem dX8_feed_42 : decode cX8_feed 42 = .ok (.iload_n 1, 1) := dk_27 (dk_at dksX8_feed_1 18 rfl rfl)
theorem dX8_feed_43 : decode cX8_feed 43 = .ok (.iastore, 1) := dk_79 (dk_at dksX8_feed_1 19 rfl rfl)
theorem dX8_feed_44 : decode cX8_feed 44 = .ok (.aload_n 0, 1) := dk_42 (dk_at dksX8_feed_1 20 rfl rfl)
theorem dX8_feed_45 : decode cX8_feed 45 = .ok (.getfield 156, 3) := dk_180 0 156 (dk_at dksX8_feed_1 21 rfl rfl)
theorem dX8_feed_48 : decode cX8_feed 48 = .ok (.ireturn, 1) := dk_172 (dk_at dksX8_feed_2 0 rfl rfl)
abbrev cX8_within : ByteArray := prog_16_method_2_code
def yX8_within : MethodName := ⟨RX8, "within", "(III)Z"⟩
def dkwX8_within_0 : List UInt8 := [26, 27, 161, 0, 12, 26, 28, 163, 0, 7, 4, 167, 0, 4, 3, 172]
abbrev dktX8_within_0 : List UInt8 := dkwX8_within_0 ++ []
theorem dksX8_within_0 : cX8_within.data.toList.drop 0 = dktX8_within_0 := by decide +kernel
theorem dX8_within_0 : decode cX8_within 0 = .ok (.iload_n 0, 1) := dk_26 (dk_at dksX8_within_0 0 rfl rfl)
theorem dX8_within_1 : decode cX8_within 1 = .ok (.iload_n 1, 1) := dk_27 (dk_at dksX8_within_0 1 rfl rfl)
theorem dX8_within_2 : decode cX8_within 2 = .ok (.if_icmp .lt 12, 3) := dk_161 0 12 (dk_at dksX8_within_0 2 rfl rfl)
theorem dX8_within_5 : decode cX8_within 5 = .ok (.iload_n 0, 1) := dk_26 (dk_at dksX8_within_0 5 rfl rfl)
theorem dX8_within_6 : decode cX8_within 6 = .ok (.iload_n 2, 1) := dk_28 (dk_at dksX8_within_0 6 rfl rfl)
theorem dX8_within_7 : decode cX8_within 7 = .ok (.if_icmp .gt 7, 3) := dk_163 0 7 (dk_at dksX8_within_0 7 rfl rfl)
theorem dX8_within_10 : decode cX8_within 10 = .ok (.iconst 1, 1) := dk_4 (dk_at dksX8_within_0 10 rfl rfl)
theorem dX8_within_11 : decode cX8_within 11 = .ok (.goto 4, 3) := dk_167 0 4 (dk_at dksX8_within_0 11 rfl rfl)
theorem dX8_within_14 : decode cX8_within 14 = .ok (.iconst 0, 1) := dk_3 (dk_at dksX8_within_0 14 rfl rfl)
theorem dX8_within_15 : decode cX8_within 15 = .ok (.ireturn, 1) := dk_172 (dk_at dksX8_within_0 15 rfl rfl)
abbrev cX8_text : ByteArray := prog_16_method_30_code
def yX8_text : MethodName := ⟨RX8, "text", "()I"⟩
def dkwX8_text_4 : List UInt8 := [42, 180, 0, 190, 104, 6, 96, 42, 180, 0, 193, 79, 42, 89, 180, 0, 190, 90, 4, 96, 181, 0, 190, 172]
abbrev dktX8_text_4 : List UInt8 := dkwX8_text_4 ++ []
def dkwX8_text_3 : List UInt8 := [3, 60, 42, 3, 181, 0, 156, 27, 154, 0, 11, 16, 156, 42, 180, 0, 162, 100, 172, 42, 180, 0, 37, 7]
abbrev dktX8_text_3 : List UInt8 := dkwX8_text_3 ++ dktX8_text_4
def dkwX8_text_2 : List UInt8 := [153, 0, 24, 42, 18, 244, 5, 182, 0, 238, 153, 0, 14, 42, 180, 0, 165, 154, 0, 7, 4, 167, 0, 4]
abbrev dktX8_text_2 : List UInt8 := dkwX8_text_2 ++ dktX8_text_3
def dkwX8_text_1 : List UInt8 := [181, 0, 193, 42, 182, 0, 202, 42, 18, 236, 3, 182, 0, 238, 153, 0, 34, 42, 18, 242, 4, 182, 0, 238]
abbrev dktX8_text_1 : List UInt8 := dkwX8_text_1 ++ dktX8_text_2
def dkwX8_text_0 : List UInt8 := [42, 180, 0, 190, 16, 6, 160, 0, 6, 16, 252, 172, 42, 3, 181, 0, 159, 42, 3, 181, 0, 215, 42, 3]
abbrev dktX8_text_0 : List UInt8 := dkwX8_text_0 ++ dktX8_text_1
theorem dksX8_text_0 : cX8_text.data.toList.drop 0 = dktX8_text_0 := by decide +kernel
theorem dksX8_text_1 : cX8_text.data.toList.drop 24 = dktX8_text_1 := dk_seg dksX8_text_0 24 rfl rfl
theorem dksX8_text_2 : cX8_text.data.toList.drop 48 = dktX8_text_2 := dk_seg dksX8_text_1 24 rfl rfl
theorem dksX8_text_3 : cX8_text.data.toList.drop 72 = dktX8_text_3 := dk_seg dksX8_text_2 24 rfl rfl
theorem dksX8_text_4 : cX8_text.data.toList.drop 96 = dktX8_text_4 := dk_seg dksX8_text_3 24 rfl rfl
theorem dX8_text_0 : decode cX8_text 0 = .ok (.aload_n 0, 1) := dk_42 (dk_at dksX8_text_0 0 rfl rfl)
theorem dX8_text_1 : decode cX8_text 1 = .ok (.getfield 190, 3) := dk_180 0 190 (dk_at dksX8_text_0 1 rfl rfl)
theorem dX8_text_4 : decode cX8_text 4 = .ok (.bipush 6, 2) := dk_16 6 (dk_at dksX8_text_0 4 rfl rfl)
theorem dX8_text_6 : decode cX8_text 6 = .ok (.if_icmp .ne 6, 3) := dk_160 0 6 (dk_at dksX8_text_0 6 rfl rfl)
theorem dX8_text_9 : decode cX8_text 9 = .ok (.bipush (-4), 2) := dk_16 252 (dk_at dksX8_text_0 9 rfl rfl)
theorem dX8_text_11 : decode cX8_text 11 = .ok (.ireturn, 1) := dk_172 (dk_at dksX8_text_0 11 rfl rfl)
theorem dX8_text_12 : decode cX8_text 12 = .ok (.aload_n 0, 1) := dk_42 (dk_at dksX8_text_0 12 rfl rfl)
theorem dX8_text_13 : decode cX8_text 13 = .ok (.iconst 0, 1) := dk_3 (dk_at dksX8_text_0 13 rfl rfl)
theorem dX8_text_14 : decode cX8_text 14 = .ok (.putfield 159, 3) := dk_181 0 159 (dk_at dksX8_text_0 14 rfl rfl)
theorem dX8_text_17 : decode cX8_text 17 = .ok (.aload_n 0, 1) := dk_42 (dk_at dksX8_text_0 17 rfl rfl)
theorem dX8_text_18 : decode cX8_text 18 = .ok (.iconst 0, 1) := dk_3 (dk_at dksX8_text_0 18 rfl rfl)
theorem dX8_text_19 : decode cX8_text 19 = .ok (.putfield 215, 3) := dk_181 0 215 (dk_at dksX8_text_0 19 rfl rfl)
theorem dX8_text_22 : decode cX8_text 22 = .ok (.aload_n 0, 1) := dk_42 (dk_at dksX8_text_0 22 rfl rfl)
theorem dX8_text_23 : decode cX8_text 23 = .ok (.iconst 0, 1) := dk_3 (dk_at dksX8_text_0 23 rfl rfl)
theorem dX8_text_24 : decode cX8_text 24 = .ok (.putfield 193, 3) := dk_181 0 193 (dk_at dksX8_text_1 0 rfl rfl)
theorem dX8_text_27 : decode cX8_text 27 = .ok (.aload_n 0, 1) := dk_42 (dk_at dksX8_text_1 3 rfl rfl)
theorem dX8_text_28 : decode cX8_text 28 = .ok (.invokevirtual 202, 3) := dk_182 0 202 (dk_at dksX8_text_1 4 rfl rfl)
theorem dX8_text_31 : decode cX8_text 31 = .ok (.aload_n 0, 1) := dk_42 (dk_at dksX8_text_1 7 rfl rfl)
theorem dX8_text_32 : decode cX8_text 32 = .ok (.ldc 236, 2) := dk_18 236 (dk_at dksX8_text_1 8 rfl rfl)
theorem dX8_text_34 : decode cX8_text 34 = .ok (.iconst 0, 1) := dk_3 (dk_at dksX8_text_1 10 rfl rfl)
theorem dX8_text_35 : decode cX8_text 35 = .ok (.invokevirtual 238, 3) := dk_182 0 238 (dk_at dksX8_text_1 11 rfl rfl)
theorem dX8_text_38 : decode cX8_text 38 = .ok (.ifCond .eq 34, 3) := dk_153 0 34 (dk_at dksX8_text_1 14 rfl rfl)
theorem dX8_text_41 : decode cX8_text 41 = .ok (.aload_n 0, 1) := dk_42 (dk_at dksX8_text_1 17 rfl rfl)
theorem dX8_text_42 : decode cX8_text 42 = .ok (.ldc 242, 2) := dk_18 242 (dk_at dksX8_text_1 18 rfl rfl)
theorem dX8_text_44 : decode cX8_text 44 = .ok (.iconst 1, 1) := dk_4 (dk_at dksX8_text_1 20 rfl rfl)
theorem dX8_text_45 : decode cX8_text 45 = .ok (.invokevirtual 238, 3) := dk_182 0 238 (dk_at dksX8_text_1 21 rfl rfl)
theorem dX8_text_48 : decode cX8_text 48 = .ok (.ifCond .eq 24, 3) := dk_153 0 24 (dk_at dksX8_text_2 0 rfl rfl)
theorem dX8_text_51 : decode cX8_text 51 = .ok (.aload_n 0, 1) := dk_42 (dk_at dksX8_text_2 3 rfl rfl)
theorem dX8_text_52 : decode cX8_text 52 = .ok (.ldc 244, 2) := dk_18 244 (dk_at dksX8_text_2 4 rfl rfl)
theorem dX8_text_54 : decode cX8_text 54 = .ok (.iconst 2, 1) := dk_5 (dk_at dksX8_text_2 6 rfl rfl)
theorem dX8_text_55 : decode cX8_text 55 = .ok (.invokevirtual 238, 3) := dk_182 0 238 (dk_at dksX8_text_2 7 rfl rfl)
theorem dX8_text_58 : decode cX8_text 58 = .ok (.ifCond .eq 14, 3) := dk_153 0 14 (dk_at dksX8_text_2 10 rfl rfl)
theorem dX8_text_61 : decode cX8_text 61 = .ok (.aload_n 0, 1) := dk_42 (dk_at dksX8_text_2 13 rfl rfl)
theorem dX8_text_62 : decode cX8_text 62 = .ok (.getfield 165, 3) := dk_180 0 165 (dk_at dksX8_text_2 14 rfl rfl)
theorem dX8_text_65 : decode cX8_text 65 = .ok (.ifCond .ne 7, 3) := dk_154 0 7 (dk_at dksX8_text_2 17 rfl rfl)
theorem dX8_text_68 : decode cX8_text 68 = .ok (.iconst 1, 1) := dk_4 (dk_at dksX8_text_2 20 rfl rfl)
theorem dX8_text_69 : decode cX8_text 69 = .ok (.goto 4, 3) := dk_167 0 4 (dk_at dksX8_text_2 21 rfl rfl)
theorem dX8_text_72 : decode cX8_text 72 = .ok (.iconst 0, 1) := dk_3 (dk_at dksX8_text_3 0 rfl rfl)
theorem dX8_text_73 : decode cX8_text 73 = .ok (.istore_n 1, 1) := dk_60 (dk_at dksX8_text_3 1 rfl rfl)
theorem dX8_text_74 : decode cX8_text 74 = .ok (.aload_n 0, 1) := dk_42 (dk_at dksX8_text_3 2 rfl rfl)
theorem dX8_text_75 : decode cX8_text 75 = .ok (.iconst 0, 1) := dk_3 (dk_at dksX8_text_3 3 rfl rfl)
theorem dX8_text_76 : decode cX8_text 76 = .ok (.putfield 156, 3) := dk_181 0 156 (dk_at dksX8_text_3 4 rfl rfl)
theorem dX8_text_79 : decode cX8_text 79 = .ok (.iload_n 1, 1) := dk_27 (dk_at dksX8_text_3 7 rfl rfl)
theorem dX8_text_80 : decode cX8_text 80 = .ok (.ifCond .ne 11, 3) := dk_154 0 11 (dk_at dksX8_text_3 8 rfl rfl)
theorem dX8_text_83 : decode cX8_text 83 = .ok (.bipush (-100), 2) := dk_16 156 (dk_at dksX8_text_3 11 rfl rfl)
theorem dX8_text_85 : decode cX8_text 85 = .ok (.aload_n 0, 1) := dk_42 (dk_at dksX8_text_3 13 rfl rfl)
theorem dX8_text_86 : decode cX8_text 86 = .ok (.getfield 162, 3) := dk_180 0 162 (dk_at dksX8_text_3 14 rfl rfl)
theorem dX8_text_89 : decode cX8_text 89 = .ok (.isub, 1) := dk_100 (dk_at dksX8_text_3 17 rfl rfl)
theorem dX8_text_90 : decode cX8_text 90 = .ok (.ireturn, 1) := dk_172 (dk_at dksX8_text_3 18 rfl rfl)
theorem dX8_text_91 : decode cX8_text 91 = .ok (.aload_n 0, 1) := dk_42 (dk_at dksX8_text_3 19 rfl rfl)
theorem dX8_text_92 : decode cX8_text 92 = .ok (.getfield 37, 3) := dk_180 0 37 (dk_at dksX8_text_3 20 rfl rfl)
theorem dX8_text_95 : decode cX8_text 95 = .ok (.iconst 4, 1) := dk_7 (dk_at dksX8_text_3 23 rfl rfl)
theorem dX8_text_96 : decode cX8_text 96 = .ok (.aload_n 0, 1) := dk_42 (dk_at dksX8_text_4 0 rfl rfl)
theorem dX8_text_97 : decode cX8_text 97 = .ok (.getfield 190, 3) := dk_180 0 190 (dk_at dksX8_text_4 1 rfl rfl)
theorem dX8_text_100 : decode cX8_text 100 = .ok (.imul, 1) := dk_104 (dk_at dksX8_text_4 4 rfl rfl)
theorem dX8_text_101 : decode cX8_text 101 = .ok (.iconst 3, 1) := dk_6 (dk_at dksX8_text_4 5 rfl rfl)
theorem dX8_text_102 : decode cX8_text 102 = .ok (.iadd, 1) := dk_96 (dk_at dksX8_text_4 6 rfl rfl)
theorem dX8_text_103 : decode cX8_text 103 = .ok (.aload_n 0, 1) := dk_42 (dk_at dksX8_text_4 7 rfl rfl)
theorem dX8_text_104 : decode cX8_text 104 = .ok (.getfield 193, 3) := dk_180 0 193 (dk_at dksX8_text_4 8 rfl rfl)
theorem dX8_text_107 : decode cX8_text 107 = .ok (.iastore, 1) := dk_79 (dk_at dksX8_text_4 11 rfl rfl)
theorem dX8_text_108 : decode cX8_text 108 = .ok (.aload_n 0, 1) := dk_42 (dk_at dksX8_text_4 12 rfl rfl)
theorem dX8_text_109 : decode cX8_text 109 = .ok (.dup, 1) := dk_89 (dk_at dksX8_text_4 13 rfl rfl)
theorem dX8_text_110 : decode cX8_text 110 = .ok (.getfield 190, 3) := dk_180 0 190 (dk_at dksX8_text_4 14 rfl rfl)
theorem dX8_text_113 : decode cX8_text 113 = .ok (.dup_x1, 1) := dk_90 (dk_at dksX8_text_4 17 rfl rfl)
theorem dX8_text_114 : decode cX8_text 114 = .ok (.iconst 1, 1) := dk_4 (dk_at dksX8_text_4 18 rfl rfl)
theorem dX8_text_115 : decode cX8_text 115 = .ok (.iadd, 1) := dk_96 (dk_at dksX8_text_4 19 rfl rfl)
theorem dX8_text_116 : decode cX8_text 116 = .ok (.putfield 190, 3) := dk_181 0 190 (dk_at dksX8_text_4 20 rfl rfl)
theorem dX8_text_119 : decode cX8_text 119 = .ok (.ireturn, 1) := dk_172 (dk_at dksX8_text_4 23 rfl rfl)
abbrev cX8_next : ByteArray := prog_16_method_16_code
def yX8_next : MethodName := ⟨RX8, "next", "()V"⟩
def dkwX8_next_13 : List UInt8 := [159, 0, 9, 27, 16, 61, 160, 0, 7, 6, 167, 0, 4, 7, 181, 0, 165, 177]
abbrev dktX8_next_13 : List UInt8 := dkwX8_next_13 ++ []
def dkwX8_next_12 : List UInt8 := [159, 0, 33, 27, 16, 43, 159, 0, 27, 27, 16, 45, 159, 0, 21, 27, 16, 42, 159, 0, 15, 27, 16, 60]
abbrev dktX8_next_12 : List UInt8 := dkwX8_next_12 ++ dktX8_next_13
def dkwX8_next_11 : List UInt8 := [181, 0, 159, 42, 27, 181, 0, 171, 42, 27, 16, 40, 159, 0, 45, 27, 16, 41, 159, 0, 39, 27, 16, 59]
abbrev dktX8_next_11 : List UInt8 := dkwX8_next_11 ++ dktX8_next_12
def dkwX8_next_10 : List UInt8 := [180, 0, 159, 4, 96, 181, 0, 159, 167, 255, 220, 42, 5, 181, 0, 165, 177, 42, 89, 180, 0, 159, 4, 96]
abbrev dktX8_next_10 : List UInt8 := dkwX8_next_10 ++ dktX8_next_11
def dkwX8_next_9 : List UInt8 := [180, 0, 156, 162, 0, 31, 42, 180, 0, 31, 42, 180, 0, 159, 46, 184, 0, 174, 153, 0, 16, 42, 89]
abbrev dktX8_next_9 : List UInt8 := dkwX8_next_9 ++ dktX8_next_10
def dkwX8_next_8 : List UInt8 := [164, 0, 7, 7, 167, 0, 4, 4, 181, 0, 165, 177, 27, 184, 0, 174, 153, 0, 48, 42, 180, 0, 159, 42]
abbrev dktX8_next_8 : List UInt8 := dkwX8_next_8 ++ dktX8_next_9
def dkwX8_next_7 : List UInt8 := [89, 180, 0, 159, 4, 96, 181, 0, 159, 167, 255, 183, 42, 42, 180, 0, 159, 42, 180, 0, 162, 100, 7]
abbrev dktX8_next_7 : List UInt8 := dkwX8_next_7 ++ dktX8_next_8
def dkwX8_next_6 : List UInt8 := [16, 10, 42, 180, 0, 171, 104, 42, 180, 0, 31, 42, 180, 0, 159, 46, 96, 16, 48, 100, 181, 0, 171, 42]
abbrev dktX8_next_6 : List UInt8 := dkwX8_next_6 ++ dktX8_next_7
def dkwX8_next_5 : List UInt8 := [180, 0, 159, 46, 184, 0, 168, 153, 0, 53, 42, 180, 0, 159, 42, 180, 0, 162, 100, 7, 162, 0, 27, 42]
abbrev dktX8_next_5 : List UInt8 := dkwX8_next_5 ++ dktX8_next_6
def dkwX8_next_4 : List UInt8 := [153, 0, 107, 42, 3, 181, 0, 171, 42, 180, 0, 159, 42, 180, 0, 156, 162, 0, 68, 42, 180, 0, 31, 42]
abbrev dktX8_next_4 : List UInt8 := dkwX8_next_4 ++ dktX8_next_5
def dkwX8_next_3 : List UInt8 := [160, 0, 9, 42, 3, 181, 0, 165, 177, 42, 180, 0, 31, 42, 180, 0, 159, 46, 60, 27, 184, 0, 168]
abbrev dktX8_next_3 : List UInt8 := dkwX8_next_3 ++ dktX8_next_4
def dkwX8_next_2 : List UInt8 := [181, 0, 159, 167, 255, 207, 42, 42, 180, 0, 159, 181, 0, 162, 42, 180, 0, 159, 42, 180, 0, 156]
abbrev dktX8_next_2 : List UInt8 := dkwX8_next_2 ++ dktX8_next_3
def dkwX8_next_1 : List UInt8 := [159, 0, 17, 42, 180, 0, 31, 42, 180, 0, 159, 46, 16, 10, 160, 0, 16, 42, 89, 180, 0, 159, 4, 96]
abbrev dktX8_next_1 : List UInt8 := dkwX8_next_1 ++ dktX8_next_2
def dkwX8_next_0 : List UInt8 := [42, 180, 0, 159, 42, 180, 0, 156, 162, 0, 44, 42, 180, 0, 31, 42, 180, 0, 159, 46, 16, 32]
abbrev dktX8_next_0 : List UInt8 := dkwX8_next_0 ++ dktX8_next_1
theorem dksX8_next_0 : cX8_next.data.toList.drop 0 = dktX8_next_0 := by decide +kernel
theorem dksX8_next_1 : cX8_next.data.toList.drop 22 = dktX8_next_1 := dk_seg dksX8_next_0 22 rfl rfl
theorem dksX8_next_2 : cX8_next.data.toList.drop 46 = dktX8_next_2 := dk_seg dksX8_next_1 24 rfl rfl
theorem dksX8_next_3 : cX8_next.data.toList.drop 68 = dktX8_next_3 := dk_seg dksX8_next_2 22 rfl rfl
theorem dksX8_next_4 : cX8_next.data.toList.drop 91 = dktX8_next_4 := dk_seg dksX8_next_3 23 rfl rfl
theorem dksX8_next_5 : cX8_next.data.toList.drop 115 = dktX8_next_5 := dk_seg dksX8_next_4 24 rfl rfl
theorem dksX8_next_6 : cX8_next.data.toList.drop 139 = dktX8_next_6 := dk_seg dksX8_next_5 24 rfl rfl
theorem dksX8_next_7 : cX8_next.data.toList.drop 163 = dktX8_next_7 := dk_seg dksX8_next_6 24 rfl rfl
theorem dksX8_next_8 : cX8_next.data.toList.drop 186 = dktX8_next_8 := dk_seg dksX8_next_7 23 rfl rfl
theorem dksX8_next_9 : cX8_next.data.toList.drop 210 = dktX8_next_9 := dk_seg dksX8_next_8 24 rfl rfl
theorem dksX8_next_10 : cX8_next.data.toList.drop 233 = dktX8_next_10 := dk_seg dksX8_next_9 23 rfl rfl
theorem dksX8_next_11 : cX8_next.data.toList.drop 257 = dktX8_next_11 := dk_seg dksX8_next_10 24 rfl rfl
theorem dksX8_next_12 : cX8_next.data.toList.drop 281 = dktX8_next_12 := dk_seg dksX8_next_11 24 rfl rfl
theorem dksX8_next_13 : cX8_next.data.toList.drop 305 = dktX8_next_13 := dk_seg dksX8_next_12 24 rfl rfl
theorem dX8_next_0 : decode cX8_next 0 = .ok (.aload_n 0, 1) := dk_42 (dk_at dksX8_next_0 0 rfl rfl)
theorem dX8_next_1 : decode cX8_next 1 = .ok (.getfield 159, 3) := dk_180 0 159 (dk_at dksX8_next_0 1 rfl rfl)
theorem dX8_next_4 : decode cX8_next 4 = .ok (.aload_n 0, 1) := dk_42 (dk_at dksX8_next_0 4 rfl rfl)
theorem dX8_next_5 : decode cX8_next 5 = .ok (.getfield 156, 3) := dk_180 0 156 (dk_at dksX8_next_0 5 rfl rfl)
theorem dX8_next_8 : decode cX8_next 8 = .ok (.if_icmp .ge 44, 3) := dk_162 0 44 (dk_at dksX8_next_0 8 rfl rfl)
theorem dX8_next_11 : decode cX8_next 11 = .ok (.aload_n 0, 1) := dk_42 (dk_at dksX8_next_0 11 rfl rfl)
theorem dX8_next_12 : decode cX8_next 12 = .ok (.getfield 31, 3) := dk_180 0 31 (dk_at dksX8_next_0 12 rfl rfl)
theorem dX8_next_15 : decode cX8_next 15 = .ok (.aload_n 0, 1) := dk_42 (dk_at dksX8_next_0 15 rfl rfl)
theorem dX8_next_16 : decode cX8_next 16 = .ok (.getfield 159, 3) := dk_180 0 159 (dk_at dksX8_next_0 16 rfl rfl)
theorem dX8_next_19 : decode cX8_next 19 = .ok (.iaload, 1) := dk_46 (dk_at dksX8_next_0 19 rfl rfl)
theorem dX8_next_20 : decode cX8_next 20 = .ok (.bipush 32, 2) := dk_16 32 (dk_at dksX8_next_0 20 rfl rfl)
theorem dX8_next_22 : decode cX8_next 22 = .ok (.if_icmp .eq 17, 3) := dk_159 0 17 (dk_at dksX8_next_1 0 rfl rfl)
theorem dX8_next_25 : decode cX8_next 25 = .ok (.aload_n 0, 1) := dk_42 (dk_at dksX8_next_1 3 rfl rfl)
theorem dX8_next_26 : decode cX8_next 26 = .ok (.getfield 31, 3) := dk_180 0 31 (dk_at dksX8_next_1 4 rfl rfl)
theorem dX8_next_29 : decode cX8_next 29 = .ok (.aload_n 0, 1) := dk_42 (dk_at dksX8_next_1 7 rfl rfl)
theorem dX8_next_30 : decode cX8_next 30 = .ok (.getfield 159, 3) := dk_180 0 159 (dk_at dksX8_next_1 8 rfl rfl)
theorem dX8_next_33 : decode cX8_next 33 = .ok (.iaload, 1) := dk_46 (dk_at dksX8_next_1 11 rfl rfl)
theorem dX8_next_34 : decode cX8_next 34 = .ok (.bipush 10, 2) := dk_16 10 (dk_at dksX8_next_1 12 rfl rfl)
theorem dX8_next_36 : decode cX8_next 36 = .ok (.if_icmp .ne 16, 3) := dk_160 0 16 (dk_at dksX8_next_1 14 rfl rfl)
theorem dX8_next_39 : decode cX8_next 39 = .ok (.aload_n 0, 1) := dk_42 (dk_at dksX8_next_1 17 rfl rfl)
theorem dX8_next_40 : decode cX8_next 40 = .ok (.dup, 1) := dk_89 (dk_at dksX8_next_1 18 rfl rfl)
theorem dX8_next_41 : decode cX8_next 41 = .ok (.getfield 159, 3) := dk_180 0 159 (dk_at dksX8_next_1 19 rfl rfl)
theorem dX8_next_44 : decode cX8_next 44 = .ok (.iconst 1, 1) := dk_4 (dk_at dksX8_next_1 22 rfl rfl)
theorem dX8_next_45 : decode cX8_next 45 = .ok (.iadd, 1) := dk_96 (dk_at dksX8_next_1 23 rfl rfl)
theorem dX8_next_46 : decode cX8_next 46 = .ok (.putfield 159, 3) := dk_181 0 159 (dk_at dksX8_next_2 0 rfl rfl)
theorem dX8_next_49 : decode cX8_next 49 = .ok (.goto (-49), 3) := dk_167 255 207 (dk_at dksX8_next_2 3 rfl rfl)
theorem dX8_next_52 : decode cX8_next 52 = .ok (.aload_n 0, 1) := dk_42 (dk_at dksX8_next_2 6 rfl rfl)
theorem dX8_next_53 : decode cX8_next 53 = .ok (.aload_n 0, 1) := dk_42 (dk_at dksX8_next_2 7 rfl rfl)
theorem dX8_next_54 : decode cX8_next 54 = .ok (.getfield 159, 3) := dk_180 0 159 (dk_at dksX8_next_2 8 rfl rfl)
theorem dX8_next_57 : decode cX8_next 57 = .ok (.putfield 162, 3) := dk_181 0 162 (dk_at dksX8_next_2 11 rfl rfl)
theorem dX8_next_60 : decode cX8_next 60 = .ok (.aload_n 0, 1) := dk_42 (dk_at dksX8_next_2 14 rfl rfl)
theorem dX8_next_61 : decode cX8_next 61 = .ok (.getfield 159, 3) := dk_180 0 159 (dk_at dksX8_next_2 15 rfl rfl)
theorem dX8_next_64 : decode cX8_next 64 = .ok (.aload_n 0, 1) := dk_42 (dk_at dksX8_next_2 18 rfl rfl)
theorem dX8_next_65 : decode cX8_next 65 = .ok (.getfield 156, 3) := dk_180 0 156 (dk_at dksX8_next_2 19 rfl rfl)
theorem dX8_next_68 : decode cX8_next 68 = .ok (.if_icmp .ne 9, 3) := dk_160 0 9 (dk_at dksX8_next_3 0 rfl rfl)
theorem dX8_next_71 : decode cX8_next 71 = .ok (.aload_n 0, 1) := dk_42 (dk_at dksX8_next_3 3 rfl rfl)
theorem dX8_next_72 : decode cX8_next 72 = .ok (.iconst 0, 1) := dk_3 (dk_at dksX8_next_3 4 rfl rfl)
theorem dX8_next_73 : decode cX8_next 73 = .ok (.putfield 165, 3) := dk_181 0 165 (dk_at dksX8_next_3 5 rfl rfl)
theorem dX8_next_76 : decode cX8_next 76 = .ok (.return_, 1) := dk_177 (dk_at dksX8_next_3 8 rfl rfl)
theorem dX8_next_77 : decode cX8_next 77 = .ok (.aload_n 0, 1) := dk_42 (dk_at dksX8_next_3 9 rfl rfl)
theorem dX8_next_78 : decode cX8_next 78 = .ok (.getfield 31, 3) := dk_180 0 31 (dk_at dksX8_next_3 10 rfl rfl)
theorem dX8_next_81 : decode cX8_next 81 = .ok (.aload_n 0, 1) := dk_42 (dk_at dksX8_next_3 13 rfl rfl)
theorem dX8_next_82 : decode cX8_next 82 = .ok (.getfield 159, 3) := dk_180 0 159 (dk_at dksX8_next_3 14 rfl rfl)
theorem dX8_next_85 : decode cX8_next 85 = .ok (.iaload, 1) := dk_46 (dk_at dksX8_next_3 17 rfl rfl)
theorem dX8_next_86 : decode cX8_next 86 = .ok (.istore_n 1, 1) := dk_60 (dk_at dksX8_next_3 18 rfl rfl)
theorem dX8_next_87 : decode cX8_next 87 = .ok (.iload_n 1, 1) := dk_27 (dk_at dksX8_next_3 19 rfl rfl)
theorem dX8_next_88 : decode cX8_next 88 = .ok (.invokestatic 168, 3) := dk_184 0 168 (dk_at dksX8_next_3 20 rfl rfl)
theorem dX8_next_91 : decode cX8_next 91 = .ok (.ifCond .eq 107, 3) := dk_153 0 107 (dk_at dksX8_next_4 0 rfl rfl)
theorem dX8_next_94 : decode cX8_next 94 = .ok (.aload_n 0, 1) := dk_42 (dk_at dksX8_next_4 3 rfl rfl)
theorem dX8_next_95 : decode cX8_next 95 = .ok (.iconst 0, 1) := dk_3 (dk_at dksX8_next_4 4 rfl rfl)
theorem dX8_next_96 : decode cX8_next 96 = .ok (.putfield 171, 3) := dk_181 0 171 (dk_at dksX8_next_4 5 rfl rfl)
theorem dX8_next_99 : decode cX8_next 99 = .ok (.aload_n 0, 1) := dk_42 (dk_at dksX8_next_4 8 rfl rfl)
theorem dX8_next_100 : decode cX8_next 100 = .ok (.getfield 159, 3) := dk_180 0 159 (dk_at dksX8_next_4 9 rfl rfl)
theorem dX8_next_103 : decode cX8_next 103 = .ok (.aload_n 0, 1) := dk_42 (dk_at dksX8_next_4 12 rfl rfl)
theorem dX8_next_104 : decode cX8_next 104 = .ok (.getfield 156, 3) := dk_180 0 156 (dk_at dksX8_next_4 13 rfl rfl)
theorem dX8_next_107 : decode cX8_next 107 = .ok (.if_icmp .ge 68, 3) := dk_162 0 68 (dk_at dksX8_next_4 16 rfl rfl)
theorem dX8_next_110 : decode cX8_next 110 = .ok (.aload_n 0, 1) := dk_42 (dk_at dksX8_next_4 19 rfl rfl)
theorem dX8_next_111 : decode cX8_next 111 = .ok (.getfield 31, 3) := dk_180 0 31 (dk_at dksX8_next_4 20 rfl rfl)
theorem dX8_next_114 : decode cX8_next 114 = .ok (.aload_n 0, 1) := dk_42 (dk_at dksX8_next_4 23 rfl rfl)
theorem dX8_next_115 : decode cX8_next 115 = .ok (.getfield 159, 3) := dk_180 0 159 (dk_at dksX8_next_5 0 rfl rfl)
theorem dX8_next_118 : decode cX8_next 118 = .ok (.iaload, 1) := dk_46 (dk_at dksX8_next_5 3 rfl rfl)
theorem dX8_next_119 : decode cX8_next 119 = .ok (.invokestatic 168, 3) := dk_184 0 168 (dk_at dksX8_next_5 4 rfl rfl)
theorem dX8_next_122 : decode cX8_next 122 = .ok (.ifCond .eq 53, 3) := dk_153 0 53 (dk_at dksX8_next_5 7 rfl rfl)
theorem dX8_next_125 : decode cX8_next 125 = .ok (.aload_n 0, 1) := dk_42 (dk_at dksX8_next_5 10 rfl rfl)
theorem dX8_next_126 : decode cX8_next 126 = .ok (.getfield 159, 3) := dk_180 0 159 (dk_at dksX8_next_5 11 rfl rfl)
theorem dX8_next_129 : decode cX8_next 129 = .ok (.aload_n 0, 1) := dk_42 (dk_at dksX8_next_5 14 rfl rfl)
theorem dX8_next_130 : decode cX8_next 130 = .ok (.getfield 162, 3) := dk_180 0 162 (dk_at dksX8_next_5 15 rfl rfl)
theorem dX8_next_133 : decode cX8_next 133 = .ok (.isub, 1) := dk_100 (dk_at dksX8_next_5 18 rfl rfl)
theorem dX8_next_134 : decode cX8_next 134 = .ok (.iconst 4, 1) := dk_7 (dk_at dksX8_next_5 19 rfl rfl)
theorem dX8_next_135 : decode cX8_next 135 = .ok (.if_icmp .ge 27, 3) := dk_162 0 27 (dk_at dksX8_next_5 20 rfl rfl)
theorem dX8_next_138 : decode cX8_next 138 = .ok (.aload_n 0, 1) := dk_42 (dk_at dksX8_next_5 23 rfl rfl)
theorem dX8_next_139 : decode cX8_next 139 = .ok (.bipush 10, 2) := dk_16 10 (dk_at dksX8_next_6 0 rfl rfl)
theorem dX8_next_141 : decode cX8_next 141 = .ok (.aload_n 0, 1) := dk_42 (dk_at dksX8_next_6 2 rfl rfl)
theorem dX8_next_142 : decode cX8_next 142 = .ok (.getfield 171, 3) := dk_180 0 171 (dk_at dksX8_next_6 3 rfl rfl)
theorem dX8_next_145 : decode cX8_next 145 = .ok (.imul, 1) := dk_104 (dk_at dksX8_next_6 6 rfl rfl)
theorem dX8_next_146 : decode cX8_next 146 = .ok (.aload_n 0, 1) := dk_42 (dk_at dksX8_next_6 7 rfl rfl)
theorem dX8_next_147 : decode cX8_next 147 = .ok (.getfield 31, 3) := dk_180 0 31 (dk_at dksX8_next_6 8 rfl rfl)
theorem dX8_next_150 : decode cX8_next 150 = .ok (.aload_n 0, 1) := dk_42 (dk_at dksX8_next_6 11 rfl rfl)
theorem dX8_next_151 : decode cX8_next 151 = .ok (.getfield 159, 3) := dk_180 0 159 (dk_at dksX8_next_6 12 rfl rfl)
theorem dX8_next_154 : decode cX8_next 154 = .ok (.iaload, 1) := dk_46 (dk_at dksX8_next_6 15 rfl rfl)
theorem dX8_next_155 : decode cX8_next 155 = .ok (.iadd, 1) := dk_96 (dk_at dksX8_next_6 16 rfl rfl)
theorem dX8_next_156 : decode cX8_next 156 = .ok (.bipush 48, 2) := dk_16 48 (dk_at dksX8_next_6 17 rfl rfl)
theorem dX8_next_158 : decode cX8_next 158 = .ok (.isub, 1) := dk_100 (dk_at dksX8_next_6 19 rfl rfl)
theorem dX8_next_159 : decode cX8_next 159 = .ok (.putfield 171, 3) := dk_181 0 171 (dk_at dksX8_next_6 20 rfl rfl)
theorem dX8_next_162 : decode cX8_next 162 = .ok (.aload_n 0, 1) := dk_42 (dk_at dksX8_next_6 23 rfl rfl)
theorem dX8_next_163 : decode cX8_next 163 = .ok (.dup, 1) := dk_89 (dk_at dksX8_next_7 0 rfl rfl)
theorem dX8_next_164 : decode cX8_next 164 = .ok (.getfield 159, 3) := dk_180 0 159 (dk_at dksX8_next_7 1 rfl rfl)
theorem dX8_next_167 : decode cX8_next 167 = .ok (.iconst 1, 1) := dk_4 (dk_at dksX8_next_7 4 rfl rfl)
theorem dX8_next_168 : decode cX8_next 168 = .ok (.iadd, 1) := dk_96 (dk_at dksX8_next_7 5 rfl rfl)
theorem dX8_next_169 : decode cX8_next 169 = .ok (.putfield 159, 3) := dk_181 0 159 (dk_at dksX8_next_7 6 rfl rfl)
theorem dX8_next_172 : decode cX8_next 172 = .ok (.goto (-73), 3) := dk_167 255 183 (dk_at dksX8_next_7 9 rfl rfl)
theorem dX8_next_175 : decode cX8_next 175 = .ok (.aload_n 0, 1) := dk_42 (dk_at dksX8_next_7 12 rfl rfl)
theorem dX8_next_176 : decode cX8_next 176 = .ok (.aload_n 0, 1) := dk_42 (dk_at dksX8_next_7 13 rfl rfl)
theorem dX8_next_177 : decode cX8_next 177 = .ok (.getfield 159, 3) := dk_180 0 159 (dk_at dksX8_next_7 14 rfl rfl)
theorem dX8_next_180 : decode cX8_next 180 = .ok (.aload_n 0, 1) := dk_42 (dk_at dksX8_next_7 17 rfl rfl)
theorem dX8_next_181 : decode cX8_next 181 = .ok (.getfield 162, 3) := dk_180 0 162 (dk_at dksX8_next_7 18 rfl rfl)
theorem dX8_next_184 : decode cX8_next 184 = .ok (.isub, 1) := dk_100 (dk_at dksX8_next_7 21 rfl rfl)
theorem dX8_next_185 : decode cX8_next 185 = .ok (.iconst 4, 1) := dk_7 (dk_at dksX8_next_7 22 rfl rfl)
theorem dX8_next_186 : decode cX8_next 186 = .ok (.if_icmp .le 7, 3) := dk_164 0 7 (dk_at dksX8_next_8 0 rfl rfl)
theorem dX8_next_189 : decode cX8_next 189 = .ok (.iconst 4, 1) := dk_7 (dk_at dksX8_next_8 3 rfl rfl)
theorem dX8_next_190 : decode cX8_next 190 = .ok (.goto 4, 3) := dk_167 0 4 (dk_at dksX8_next_8 4 rfl rfl)
theorem dX8_next_193 : decode cX8_next 193 = .ok (.iconst 1, 1) := dk_4 (dk_at dksX8_next_8 7 rfl rfl)
theorem dX8_next_194 : decode cX8_next 194 = .ok (.putfield 165, 3) := dk_181 0 165 (dk_at dksX8_next_8 8 rfl rfl)
theorem dX8_next_197 : decode cX8_next 197 = .ok (.return_, 1) := dk_177 (dk_at dksX8_next_8 11 rfl rfl)
theorem dX8_next_198 : decode cX8_next 198 = .ok (.iload_n 1, 1) := dk_27 (dk_at dksX8_next_8 12 rfl rfl)
theorem dX8_next_199 : decode cX8_next 199 = .ok (.invokestatic 174, 3) := dk_184 0 174 (dk_at dksX8_next_8 13 rfl rfl)
theorem dX8_next_202 : decode cX8_next 202 = .ok (.ifCond .eq 48, 3) := dk_153 0 48 (dk_at dksX8_next_8 16 rfl rfl)
theorem dX8_next_205 : decode cX8_next 205 = .ok (.aload_n 0, 1) := dk_42 (dk_at dksX8_next_8 19 rfl rfl)
theorem dX8_next_206 : decode cX8_next 206 = .ok (.getfield 159, 3) := dk_180 0 159 (dk_at dksX8_next_8 20 rfl rfl)
theorem dX8_next_209 : decode cX8_next 209 = .ok (.aload_n 0, 1) := dk_42 (dk_at dksX8_next_8 23 rfl rfl)
theorem dX8_next_210 : decode cX8_next 210 = .ok (.getfield 156, 3) := dk_180 0 156 (dk_at dksX8_next_9 0 rfl rfl)
theorem dX8_next_213 : decode cX8_next 213 = .ok (.if_icmp .ge 31, 3) := dk_162 0 31 (dk_at dksX8_next_9 3 rfl rfl)
theorem dX8_next_216 : decode cX8_next 216 = .ok (.aload_n 0, 1) := dk_42 (dk_at dksX8_next_9 6 rfl rfl)
theorem dX8_next_217 : decode cX8_next 217 = .ok (.getfield 31, 3) := dk_180 0 31 (dk_at dksX8_next_9 7 rfl rfl)
theorem dX8_next_220 : decode cX8_next 220 = .ok (.aload_n 0, 1) := dk_42 (dk_at dksX8_next_9 10 rfl rfl)
theorem dX8_next_221 : decode cX8_next 221 = .ok (.getfield 159, 3) := dk_180 0 159 (dk_at dksX8_next_9 11 rfl rfl)
theorem dX8_next_224 : decode cX8_next 224 = .ok (.iaload, 1) := dk_46 (dk_at dksX8_next_9 14 rfl rfl)
theorem dX8_next_225 : decode cX8_next 225 = .ok (.invokestatic 174, 3) := dk_184 0 174 (dk_at dksX8_next_9 15 rfl rfl)
theorem dX8_next_228 : decode cX8_next 228 = .ok (.ifCond .eq 16, 3) := dk_153 0 16 (dk_at dksX8_next_9 18 rfl rfl)
theorem dX8_next_231 : decode cX8_next 231 = .ok (.aload_n 0, 1) := dk_42 (dk_at dksX8_next_9 21 rfl rfl)
theorem dX8_next_232 : decode cX8_next 232 = .ok (.dup, 1) := dk_89 (dk_at dksX8_next_9 22 rfl rfl)
theorem dX8_next_233 : decode cX8_next 233 = .ok (.getfield 159, 3) := dk_180 0 159 (dk_at dksX8_next_10 0 rfl rfl)
theorem dX8_next_236 : decode cX8_next 236 = .ok (.iconst 1, 1) := dk_4 (dk_at dksX8_next_10 3 rfl rfl)
theorem dX8_next_237 : decode cX8_next 237 = .ok (.iadd, 1) := dk_96 (dk_at dksX8_next_10 4 rfl rfl)
theorem dX8_next_238 : decode cX8_next 238 = .ok (.putfield 159, 3) := dk_181 0 159 (dk_at dksX8_next_10 5 rfl rfl)
theorem dX8_next_241 : decode cX8_next 241 = .ok (.goto (-36), 3) := dk_167 255 220 (dk_at dksX8_next_10 8 rfl rfl)
theorem dX8_next_244 : decode cX8_next 244 = .ok (.aload_n 0, 1) := dk_42 (dk_at dksX8_next_10 11 rfl rfl)
theorem dX8_next_245 : decode cX8_next 245 = .ok (.iconst 2, 1) := dk_5 (dk_at dksX8_next_10 12 rfl rfl)
theorem dX8_next_246 : decode cX8_next 246 = .ok (.putfield 165, 3) := dk_181 0 165 (dk_at dksX8_next_10 13 rfl rfl)
theorem dX8_next_249 : decode cX8_next 249 = .ok (.return_, 1) := dk_177 (dk_at dksX8_next_10 16 rfl rfl)
theorem dX8_next_250 : decode cX8_next 250 = .ok (.aload_n 0, 1) := dk_42 (dk_at dksX8_next_10 17 rfl rfl)
theorem dX8_next_251 : decode cX8_next 251 = .ok (.dup, 1) := dk_89 (dk_at dksX8_next_10 18 rfl rfl)
theorem dX8_next_252 : decode cX8_next 252 = .ok (.getfield 159, 3) := dk_180 0 159 (dk_at dksX8_next_10 19 rfl rfl)
theorem dX8_next_255 : decode cX8_next 255 = .ok (.iconst 1, 1) := dk_4 (dk_at dksX8_next_10 22 rfl rfl)
theorem dX8_next_256 : decode cX8_next 256 = .ok (.iadd, 1) := dk_96 (dk_at dksX8_next_10 23 rfl rfl)
theorem dX8_next_257 : decode cX8_next 257 = .ok (.putfield 159, 3) := dk_181 0 159 (dk_at dksX8_next_11 0 rfl rfl)
theorem dX8_next_260 : decode cX8_next 260 = .ok (.aload_n 0, 1) := dk_42 (dk_at dksX8_next_11 3 rfl rfl)
theorem dX8_next_261 : decode cX8_next 261 = .ok (.iload_n 1, 1) := dk_27 (dk_at dksX8_next_11 4 rfl rfl)
theorem dX8_next_262 : decode cX8_next 262 = .ok (.putfield 171, 3) := dk_181 0 171 (dk_at dksX8_next_11 5 rfl rfl)
theorem dX8_next_265 : decode cX8_next 265 = .ok (.aload_n 0, 1) := dk_42 (dk_at dksX8_next_11 8 rfl rfl)
theorem dX8_next_266 : decode cX8_next 266 = .ok (.iload_n 1, 1) := dk_27 (dk_at dksX8_next_11 9 rfl rfl)
theorem dX8_next_267 : decode cX8_next 267 = .ok (.bipush 40, 2) := dk_16 40 (dk_at dksX8_next_11 10 rfl rfl)
theorem dX8_next_269 : decode cX8_next 269 = .ok (.if_icmp .eq 45, 3) := dk_159 0 45 (dk_at dksX8_next_11 12 rfl rfl)
theorem dX8_next_272 : decode cX8_next 272 = .ok (.iload_n 1, 1) := dk_27 (dk_at dksX8_next_11 15 rfl rfl)
theorem dX8_next_273 : decode cX8_next 273 = .ok (.bipush 41, 2) := dk_16 41 (dk_at dksX8_next_11 16 rfl rfl)
theorem dX8_next_275 : decode cX8_next 275 = .ok (.if_icmp .eq 39, 3) := dk_159 0 39 (dk_at dksX8_next_11 18 rfl rfl)
theorem dX8_next_278 : decode cX8_next 278 = .ok (.iload_n 1, 1) := dk_27 (dk_at dksX8_next_11 21 rfl rfl)
theorem dX8_next_279 : decode cX8_next 279 = .ok (.bipush 59, 2) := dk_16 59 (dk_at dksX8_next_11 22 rfl rfl)
theorem dX8_next_281 : decode cX8_next 281 = .ok (.if_icmp .eq 33, 3) := dk_159 0 33 (dk_at dksX8_next_12 0 rfl rfl)
theorem dX8_next_284 : decode cX8_next 284 = .ok (.iload_n 1, 1) := dk_27 (dk_at dksX8_next_12 3 rfl rfl)
theorem dX8_next_285 : decode cX8_next 285 = .ok (.bipush 43, 2) := dk_16 43 (dk_at dksX8_next_12 4 rfl rfl)
theorem dX8_next_287 : decode cX8_next 287 = .ok (.if_icmp .eq 27, 3) := dk_159 0 27 (dk_at dksX8_next_12 6 rfl rfl)
theorem dX8_next_290 : decode cX8_next 290 = .ok (.iload_n 1, 1) := dk_27 (dk_at dksX8_next_12 9 rfl rfl)
theorem dX8_next_291 : decode cX8_next 291 = .ok (.bipush 45, 2) := dk_16 45 (dk_at dksX8_next_12 10 rfl rfl)
theorem dX8_next_293 : decode cX8_next 293 = .ok (.if_icmp .eq 21, 3) := dk_159 0 21 (dk_at dksX8_next_12 12 rfl rfl)
theorem dX8_next_296 : decode cX8_next 296 = .ok (.iload_n 1, 1) := dk_27 (dk_at dksX8_next_12 15 rfl rfl)
theorem dX8_next_297 : decode cX8_next 297 = .ok (.bipush 42, 2) := dk_16 42 (dk_at dksX8_next_12 16 rfl rfl)
theorem dX8_next_299 : decode cX8_next 299 = .ok (.if_icmp .eq 15, 3) := dk_159 0 15 (dk_at dksX8_next_12 18 rfl rfl)
theorem dX8_next_302 : decode cX8_next 302 = .ok (.iload_n 1, 1) := dk_27 (dk_at dksX8_next_12 21 rfl rfl)
theorem dX8_next_303 : decode cX8_next 303 = .ok (.bipush 60, 2) := dk_16 60 (dk_at dksX8_next_12 22 rfl rfl)
theorem dX8_next_305 : decode cX8_next 305 = .ok (.if_icmp .eq 9, 3) := dk_159 0 9 (dk_at dksX8_next_13 0 rfl rfl)
theorem dX8_next_308 : decode cX8_next 308 = .ok (.iload_n 1, 1) := dk_27 (dk_at dksX8_next_13 3 rfl rfl)
theorem dX8_next_309 : decode cX8_next 309 = .ok (.bipush 61, 2) := dk_16 61 (dk_at dksX8_next_13 4 rfl rfl)
theorem dX8_next_311 : decode cX8_next 311 = .ok (.if_icmp .ne 7, 3) := dk_160 0 7 (dk_at dksX8_next_13 6 rfl rfl)
theorem dX8_next_314 : decode cX8_next 314 = .ok (.iconst 3, 1) := dk_6 (dk_at dksX8_next_13 9 rfl rfl)
theorem dX8_next_315 : decode cX8_next 315 = .ok (.goto 4, 3) := dk_167 0 4 (dk_at dksX8_next_13 10 rfl rfl)
theorem dX8_next_318 : decode cX8_next 318 = .ok (.iconst 4, 1) := dk_7 (dk_at dksX8_next_13 13 rfl rfl)
theorem dX8_next_319 : decode cX8_next 319 = .ok (.putfield 165, 3) := dk_181 0 165 (dk_at dksX8_next_13 14 rfl rfl)
theorem dX8_next_322 : decode cX8_next 322 = .ok (.return_, 1) := dk_177 (dk_at dksX8_next_13 17 rfl rfl)
abbrev cX8_isDigit : ByteArray := prog_16_method_17_code
def yX8_isDigit : MethodName := ⟨RX8, "isDigit", "(I)Z"⟩
def dkwX8_isDigit_0 : List UInt8 := [26, 16, 48, 161, 0, 13, 26, 16, 57, 163, 0, 7, 4, 167, 0, 4, 3, 172]
abbrev dktX8_isDigit_0 : List UInt8 := dkwX8_isDigit_0 ++ []
theorem dksX8_isDigit_0 : cX8_isDigit.data.toList.drop 0 = dktX8_isDigit_0 := by decide +kernel
theorem dX8_isDigit_0 : decode cX8_isDigit 0 = .ok (.iload_n 0, 1) := dk_26 (dk_at dksX8_isDigit_0 0 rfl rfl)
theorem dX8_isDigit_1 : decode cX8_isDigit 1 = .ok (.bipush 48, 2) := dk_16 48 (dk_at dksX8_isDigit_0 1 rfl rfl)
theorem dX8_isDigit_3 : decode cX8_isDigit 3 = .ok (.if_icmp .lt 13, 3) := dk_161 0 13 (dk_at dksX8_isDigit_0 3 rfl rfl)
theorem dX8_isDigit_6 : decode cX8_isDigit 6 = .ok (.iload_n 0, 1) := dk_26 (dk_at dksX8_isDigit_0 6 rfl rfl)
theorem dX8_isDigit_7 : decode cX8_isDigit 7 = .ok (.bipush 57, 2) := dk_16 57 (dk_at dksX8_isDigit_0 7 rfl rfl)
theorem dX8_isDigit_9 : decode cX8_isDigit 9 = .ok (.if_icmp .gt 7, 3) := dk_163 0 7 (dk_at dksX8_isDigit_0 9 rfl rfl)
theorem dX8_isDigit_12 : decode cX8_isDigit 12 = .ok (.iconst 1, 1) := dk_4 (dk_at dksX8_isDigit_0 12 rfl rfl)
theorem dX8_isDigit_13 : decode cX8_isDigit 13 = .ok (.goto 4, 3) := dk_167 0 4 (dk_at dksX8_isDigit_0 13 rfl rfl)
theorem dX8_isDigit_16 : decode cX8_isDigit 16 = .ok (.iconst 0, 1) := dk_3 (dk_at dksX8_isDigit_0 16 rfl rfl)
theorem dX8_isDigit_17 : decode cX8_isDigit 17 = .ok (.ireturn, 1) := dk_172 (dk_at dksX8_isDigit_0 17 rfl rfl)
abbrev cX8_isLetter : ByteArray := prog_16_method_18_code
def yX8_isLetter : MethodName := ⟨RX8, "isLetter", "(I)Z"⟩
def dkwX8_isLetter_0 : List UInt8 := [26, 16, 97, 161, 0, 13, 26, 16, 122, 163, 0, 7, 4, 167, 0, 4, 3, 172]
abbrev dktX8_isLetter_0 : List UInt8 := dkwX8_isLetter_0 ++ []
theorem dksX8_isLetter_0 : cX8_isLetter.data.toList.drop 0 = dktX8_isLetter_0 := by decide +kernel
theorem dX8_isLetter_0 : decode cX8_isLetter 0 = .ok (.iload_n 0, 1) := dk_26 (dk_at dksX8_isLetter_0 0 rfl rfl)
theorem dX8_isLetter_1 : decode cX8_isLetter 1 = .ok (.bipush 97, 2) := dk_16 97 (dk_at dksX8_isLetter_0 1 rfl rfl)
theorem dX8_isLetter_3 : decode cX8_isLetter 3 = .ok (.if_icmp .lt 13, 3) := dk_161 0 13 (dk_at dksX8_isLetter_0 3 rfl rfl)
theorem dX8_isLetter_6 : decode cX8_isLetter 6 = .ok (.iload_n 0, 1) := dk_26 (dk_at dksX8_isLetter_0 6 rfl rfl)
theorem dX8_isLetter_7 : decode cX8_isLetter 7 = .ok (.bipush 122, 2) := dk_16 122 (dk_at dksX8_isLetter_0 7 rfl rfl)
theorem dX8_isLetter_9 : decode cX8_isLetter 9 = .ok (.if_icmp .gt 7, 3) := dk_163 0 7 (dk_at dksX8_isLetter_0 9 rfl rfl)
theorem dX8_isLetter_12 : decode cX8_isLetter 12 = .ok (.iconst 1, 1) := dk_4 (dk_at dksX8_isLetter_0 12 rfl rfl)
theorem dX8_isLetter_13 : decode cX8_isLetter 13 = .ok (.goto 4, 3) := dk_167 0 4 (dk_at dksX8_isLetter_0 13 rfl rfl)
theorem dX8_isLetter_16 : decode cX8_isLetter 16 = .ok (.iconst 0, 1) := dk_3 (dk_at dksX8_isLetter_0 16 rfl rfl)
theorem dX8_isLetter_17 : decode cX8_isLetter 17 = .ok (.ireturn, 1) := dk_172 (dk_at dksX8_isLetter_0 17 rfl rfl)
abbrev cX8_part : ByteArray := prog_16_method_29_code
def yX8_part : MethodName := ⟨RX8, "part", "(Ljava/lang/String;I)Z"⟩
def dkwX8_part_2 : List UInt8 := [172, 42, 182, 0, 202, 4, 172]
abbrev dktX8_part_2 : List UInt8 := dkwX8_part_2 ++ []
def dkwX8_part_1 : List UInt8 := [28, 96, 42, 180, 0, 193, 79, 42, 182, 0, 233, 153, 0, 12, 42, 16, 59, 182, 0, 221, 154, 0, 5, 3]
abbrev dktX8_part_1 : List UInt8 := dkwX8_part_1 ++ dktX8_part_2
def dkwX8_part_0 : List UInt8 := [42, 43, 182, 0, 178, 154, 0, 5, 3, 172, 42, 182, 0, 202, 42, 180, 0, 37, 7, 42, 180, 0, 190, 104]
abbrev dktX8_part_0 : List UInt8 := dkwX8_part_0 ++ dktX8_part_1
theorem dksX8_part_0 : cX8_part.data.toList.drop 0 = dktX8_part_0 := by decide +kernel
theorem dksX8_part_1 : cX8_part.data.toList.drop 24 = dktX8_part_1 := dk_seg dksX8_part_0 24 rfl rfl
theorem dksX8_part_2 : cX8_part.data.toList.drop 48 = dktX8_part_2 := dk_seg dksX8_part_1 24 rfl rfl
theorem dX8_part_0 : decode cX8_part 0 = .ok (.aload_n 0, 1) := dk_42 (dk_at dksX8_part_0 0 rfl rfl)
theorem dX8_part_1 : decode cX8_part 1 = .ok (.aload_n 1, 1) := dk_43 (dk_at dksX8_part_0 1 rfl rfl)
theorem dX8_part_2 : decode cX8_part 2 = .ok (.invokevirtual 178, 3) := dk_182 0 178 (dk_at dksX8_part_0 2 rfl rfl)
theorem dX8_part_5 : decode cX8_part 5 = .ok (.ifCond .ne 5, 3) := dk_154 0 5 (dk_at dksX8_part_0 5 rfl rfl)
theorem dX8_part_8 : decode cX8_part 8 = .ok (.iconst 0, 1) := dk_3 (dk_at dksX8_part_0 8 rfl rfl)
theorem dX8_part_9 : decode cX8_part 9 = .ok (.ireturn, 1) := dk_172 (dk_at dksX8_part_0 9 rfl rfl)
theorem dX8_part_10 : decode cX8_part 10 = .ok (.aload_n 0, 1) := dk_42 (dk_at dksX8_part_0 10 rfl rfl)
theorem dX8_part_11 : decode cX8_part 11 = .ok (.invokevirtual 202, 3) := dk_182 0 202 (dk_at dksX8_part_0 11 rfl rfl)
theorem dX8_part_14 : decode cX8_part 14 = .ok (.aload_n 0, 1) := dk_42 (dk_at dksX8_part_0 14 rfl rfl)
theorem dX8_part_15 : decode cX8_part 15 = .ok (.getfield 37, 3) := dk_180 0 37 (dk_at dksX8_part_0 15 rfl rfl)
theorem dX8_part_18 : decode cX8_part 18 = .ok (.iconst 4, 1) := dk_7 (dk_at dksX8_part_0 18 rfl rfl)
theorem dX8_part_19 : decode cX8_part 19 = .ok (.aload_n 0, 1) := dk_42 (dk_at dksX8_part_0 19 rfl rfl)
theorem dX8_part_20 : decode cX8_part 20 = .ok (.getfield 190, 3) := dk_180 0 190 (dk_at dksX8_part_0 20 rfl rfl)
theorem dX8_part_23 : decode cX8_part 23 = .ok (.imul, 1) := dk_104 (dk_at dksX8_part_0 23 rfl rfl)
theorem dX8_part_24 : decode cX8_part 24 = .ok (.iload_n 2, 1) := dk_28 (dk_at dksX8_part_1 0 rfl rfl)
theorem dX8_part_25 : decode cX8_part 25 = .ok (.iadd, 1) := dk_96 (dk_at dksX8_part_1 1 rfl rfl)
theorem dX8_part_26 : decode cX8_part 26 = .ok (.aload_n 0, 1) := dk_42 (dk_at dksX8_part_1 2 rfl rfl)
theorem dX8_part_27 : decode cX8_part 27 = .ok (.getfield 193, 3) := dk_180 0 193 (dk_at dksX8_part_1 3 rfl rfl)
theorem dX8_part_30 : decode cX8_part 30 = .ok (.iastore, 1) := dk_79 (dk_at dksX8_part_1 6 rfl rfl)
theorem dX8_part_31 : decode cX8_part 31 = .ok (.aload_n 0, 1) := dk_42 (dk_at dksX8_part_1 7 rfl rfl)
theorem dX8_part_32 : decode cX8_part 32 = .ok (.invokevirtual 233, 3) := dk_182 0 233 (dk_at dksX8_part_1 8 rfl rfl)
theorem dX8_part_35 : decode cX8_part 35 = .ok (.ifCond .eq 12, 3) := dk_153 0 12 (dk_at dksX8_part_1 11 rfl rfl)
theorem dX8_part_38 : decode cX8_part 38 = .ok (.aload_n 0, 1) := dk_42 (dk_at dksX8_part_1 14 rfl rfl)
theorem dX8_part_39 : decode cX8_part 39 = .ok (.bipush 59, 2) := dk_16 59 (dk_at dksX8_part_1 15 rfl rfl)
theorem dX8_part_41 : decode cX8_part 41 = .ok (.invokevirtual 221, 3) := dk_182 0 221 (dk_at dksX8_part_1 17 rfl rfl)
theorem dX8_part_44 : decode cX8_part 44 = .ok (.ifCond .ne 5, 3) := dk_154 0 5 (dk_at dksX8_part_1 20 rfl rfl)
theorem dX8_part_47 : decode cX8_part 47 = .ok (.iconst 0, 1) := dk_3 (dk_at dksX8_part_1 23 rfl rfl)
theorem dX8_part_48 : decode cX8_part 48 = .ok (.ireturn, 1) := dk_172 (dk_at dksX8_part_2 0 rfl rfl)
theorem dX8_part_49 : decode cX8_part 49 = .ok (.aload_n 0, 1) := dk_42 (dk_at dksX8_part_2 1 rfl rfl)
theorem dX8_part_50 : decode cX8_part 50 = .ok (.invokevirtual 202, 3) := dk_182 0 202 (dk_at dksX8_part_2 2 rfl rfl)
theorem dX8_part_53 : decode cX8_part 53 = .ok (.iconst 1, 1) := dk_4 (dk_at dksX8_part_2 5 rfl rfl)
theorem dX8_part_54 : decode cX8_part 54 = .ok (.ireturn, 1) := dk_172 (dk_at dksX8_part_2 6 rfl rfl)
abbrev cX8_is : ByteArray := prog_16_method_19_code
def yX8_is : MethodName := ⟨RX8, "is", "(Ljava/lang/String;)Z"⟩
def dkwX8_is_2 : List UInt8 := [28, 182, 0, 88, 159, 0, 5, 3, 172, 132, 2, 1, 167, 255, 224, 4, 172]
abbrev dktX8_is_2 : List UInt8 := dkwX8_is_2 ++ []
def dkwX8_is_1 : List UInt8 := [3, 172, 3, 61, 28, 43, 182, 0, 82, 162, 0, 30, 42, 180, 0, 31, 42, 180, 0, 162, 28, 96, 46, 43]
abbrev dktX8_is_1 : List UInt8 := dkwX8_is_1 ++ dktX8_is_2
def dkwX8_is_0 : List UInt8 := [42, 180, 0, 165, 5, 160, 0, 19, 42, 180, 0, 159, 42, 180, 0, 162, 100, 43, 182, 0, 82, 159, 0, 5]
abbrev dktX8_is_0 : List UInt8 := dkwX8_is_0 ++ dktX8_is_1
theorem dksX8_is_0 : cX8_is.data.toList.drop 0 = dktX8_is_0 := by decide +kernel
theorem dksX8_is_1 : cX8_is.data.toList.drop 24 = dktX8_is_1 := dk_seg dksX8_is_0 24 rfl rfl
theorem dksX8_is_2 : cX8_is.data.toList.drop 48 = dktX8_is_2 := dk_seg dksX8_is_1 24 rfl rfl
theorem dX8_is_0 : decode cX8_is 0 = .ok (.aload_n 0, 1) := dk_42 (dk_at dksX8_is_0 0 rfl rfl)
theorem dX8_is_1 : decode cX8_is 1 = .ok (.getfield 165, 3) := dk_180 0 165 (dk_at dksX8_is_0 1 rfl rfl)
theorem dX8_is_4 : decode cX8_is 4 = .ok (.iconst 2, 1) := dk_5 (dk_at dksX8_is_0 4 rfl rfl)
theorem dX8_is_5 : decode cX8_is 5 = .ok (.if_icmp .ne 19, 3) := dk_160 0 19 (dk_at dksX8_is_0 5 rfl rfl)
theorem dX8_is_8 : decode cX8_is 8 = .ok (.aload_n 0, 1) := dk_42 (dk_at dksX8_is_0 8 rfl rfl)
theorem dX8_is_9 : decode cX8_is 9 = .ok (.getfield 159, 3) := dk_180 0 159 (dk_at dksX8_is_0 9 rfl rfl)
theorem dX8_is_12 : decode cX8_is 12 = .ok (.aload_n 0, 1) := dk_42 (dk_at dksX8_is_0 12 rfl rfl)
theorem dX8_is_13 : decode cX8_is 13 = .ok (.getfield 162, 3) := dk_180 0 162 (dk_at dksX8_is_0 13 rfl rfl)
theorem dX8_is_16 : decode cX8_is 16 = .ok (.isub, 1) := dk_100 (dk_at dksX8_is_0 16 rfl rfl)
theorem dX8_is_17 : decode cX8_is 17 = .ok (.aload_n 1, 1) := dk_43 (dk_at dksX8_is_0 17 rfl rfl)
theorem dX8_is_18 : decode cX8_is 18 = .ok (.invokevirtual 82, 3) := dk_182 0 82 (dk_at dksX8_is_0 18 rfl rfl)
theorem dX8_is_21 : decode cX8_is 21 = .ok (.if_icmp .eq 5, 3) := dk_159 0 5 (dk_at dksX8_is_0 21 rfl rfl)
theorem dX8_is_24 : decode cX8_is 24 = .ok (.iconst 0, 1) := dk_3 (dk_at dksX8_is_1 0 rfl rfl)
theorem dX8_is_25 : decode cX8_is 25 = .ok (.ireturn, 1) := dk_172 (dk_at dksX8_is_1 1 rfl rfl)
theorem dX8_is_26 : decode cX8_is 26 = .ok (.iconst 0, 1) := dk_3 (dk_at dksX8_is_1 2 rfl rfl)
theorem dX8_is_27 : decode cX8_is 27 = .ok (.istore_n 2, 1) := dk_61 (dk_at dksX8_is_1 3 rfl rfl)
theorem dX8_is_28 : decode cX8_is 28 = .ok (.iload_n 2, 1) := dk_28 (dk_at dksX8_is_1 4 rfl rfl)
theorem dX8_is_29 : decode cX8_is 29 = .ok (.aload_n 1, 1) := dk_43 (dk_at dksX8_is_1 5 rfl rfl)
theorem dX8_is_30 : decode cX8_is 30 = .ok (.invokevirtual 82, 3) := dk_182 0 82 (dk_at dksX8_is_1 6 rfl rfl)
theorem dX8_is_33 : decode cX8_is 33 = .ok (.if_icmp .ge 30, 3) := dk_162 0 30 (dk_at dksX8_is_1 9 rfl rfl)
theorem dX8_is_36 : decode cX8_is 36 = .ok (.aload_n 0, 1) := dk_42 (dk_at dksX8_is_1 12 rfl rfl)
theorem dX8_is_37 : decode cX8_is 37 = .ok (.getfield 31, 3) := dk_180 0 31 (dk_at dksX8_is_1 13 rfl rfl)
theorem dX8_is_40 : decode cX8_is 40 = .ok (.aload_n 0, 1) := dk_42 (dk_at dksX8_is_1 16 rfl rfl)
theorem dX8_is_41 : decode cX8_is 41 = .ok (.getfield 162, 3) := dk_180 0 162 (dk_at dksX8_is_1 17 rfl rfl)
theorem dX8_is_44 : decode cX8_is 44 = .ok (.iload_n 2, 1) := dk_28 (dk_at dksX8_is_1 20 rfl rfl)
theorem dX8_is_45 : decode cX8_is 45 = .ok (.iadd, 1) := dk_96 (dk_at dksX8_is_1 21 rfl rfl)
theorem dX8_is_46 : decode cX8_is 46 = .ok (.iaload, 1) := dk_46 (dk_at dksX8_is_1 22 rfl rfl)
theorem dX8_is_47 : decode cX8_is 47 = .ok (.aload_n 1, 1) := dk_43 (dk_at dksX8_is_1 23 rfl rfl)
theorem dX8_is_48 : decode cX8_is 48 = .ok (.iload_n 2, 1) := dk_28 (dk_at dksX8_is_2 0 rfl rfl)
theorem dX8_is_49 : decode cX8_is 49 = .ok (.invokevirtual 88, 3) := dk_182 0 88 (dk_at dksX8_is_2 1 rfl rfl)
theorem dX8_is_52 : decode cX8_is 52 = .ok (.if_icmp .eq 5, 3) := dk_159 0 5 (dk_at dksX8_is_2 4 rfl rfl)
theorem dX8_is_55 : decode cX8_is 55 = .ok (.iconst 0, 1) := dk_3 (dk_at dksX8_is_2 7 rfl rfl)
theorem dX8_is_56 : decode cX8_is 56 = .ok (.ireturn, 1) := dk_172 (dk_at dksX8_is_2 8 rfl rfl)
theorem dX8_is_57 : decode cX8_is 57 = .ok (.iinc 2 1, 3) := dk_132 2 1 (dk_at dksX8_is_2 9 rfl rfl)
theorem dX8_is_60 : decode cX8_is 60 = .ok (.goto (-32), 3) := dk_167 255 224 (dk_at dksX8_is_2 12 rfl rfl)
theorem dX8_is_63 : decode cX8_is 63 = .ok (.iconst 1, 1) := dk_4 (dk_at dksX8_is_2 15 rfl rfl)
theorem dX8_is_64 : decode cX8_is 64 = .ok (.ireturn, 1) := dk_172 (dk_at dksX8_is_2 16 rfl rfl)
abbrev cX8_any : ByteArray := prog_16_method_23_code
def yX8_any : MethodName := ⟨RX8, "any", "()Z"⟩
def dkwX8_any_1 : List UInt8 := [182, 0, 196, 154, 0, 5, 3, 172, 42, 16, 245, 182, 0, 205, 167, 255, 228, 4, 172]
abbrev dktX8_any_1 : List UInt8 := dkwX8_any_1 ++ []
def dkwX8_any_0 : List UInt8 := [42, 182, 0, 196, 154, 0, 5, 3, 172, 42, 18, 200, 182, 0, 178, 153, 0, 25, 42, 182, 0, 202, 42]
abbrev dktX8_any_0 : List UInt8 := dkwX8_any_0 ++ dktX8_any_1
theorem dksX8_any_0 : cX8_any.data.toList.drop 0 = dktX8_any_0 := by decide +kernel
theorem dksX8_any_1 : cX8_any.data.toList.drop 23 = dktX8_any_1 := dk_seg dksX8_any_0 23 rfl rfl
theorem dX8_any_0 : decode cX8_any 0 = .ok (.aload_n 0, 1) := dk_42 (dk_at dksX8_any_0 0 rfl rfl)
theorem dX8_any_1 : decode cX8_any 1 = .ok (.invokevirtual 196, 3) := dk_182 0 196 (dk_at dksX8_any_0 1 rfl rfl)
theorem dX8_any_4 : decode cX8_any 4 = .ok (.ifCond .ne 5, 3) := dk_154 0 5 (dk_at dksX8_any_0 4 rfl rfl)
theorem dX8_any_7 : decode cX8_any 7 = .ok (.iconst 0, 1) := dk_3 (dk_at dksX8_any_0 7 rfl rfl)
theorem dX8_any_8 : decode cX8_any 8 = .ok (.ireturn, 1) := dk_172 (dk_at dksX8_any_0 8 rfl rfl)
theorem dX8_any_9 : decode cX8_any 9 = .ok (.aload_n 0, 1) := dk_42 (dk_at dksX8_any_0 9 rfl rfl)
theorem dX8_any_10 : decode cX8_any 10 = .ok (.ldc 200, 2) := dk_18 200 (dk_at dksX8_any_0 10 rfl rfl)
theorem dX8_any_12 : decode cX8_any 12 = .ok (.invokevirtual 178, 3) := dk_182 0 178 (dk_at dksX8_any_0 12 rfl rfl)
theorem dX8_any_15 : decode cX8_any 15 = .ok (.ifCond .eq 25, 3) := dk_153 0 25 (dk_at dksX8_any_0 15 rfl rfl)
theorem dX8_any_18 : decode cX8_any 18 = .ok (.aload_n 0, 1) := dk_42 (dk_at dksX8_any_0 18 rfl rfl)
theorem dX8_any_19 : decode cX8_any 19 = .ok (.invokevirtual 202, 3) := dk_182 0 202 (dk_at dksX8_any_0 19 rfl rfl)
theorem dX8_any_22 : decode cX8_any 22 = .ok (.aload_n 0, 1) := dk_42 (dk_at dksX8_any_0 22 rfl rfl)
theorem dX8_any_23 : decode cX8_any 23 = .ok (.invokevirtual 196, 3) := dk_182 0 196 (dk_at dksX8_any_1 0 rfl rfl)
theorem dX8_any_26 : decode cX8_any 26 = .ok (.ifCond .ne 5, 3) := dk_154 0 5 (dk_at dksX8_any_1 3 rfl rfl)
theorem dX8_any_29 : decode cX8_any 29 = .ok (.iconst 0, 1) := dk_3 (dk_at dksX8_any_1 6 rfl rfl)
theorem dX8_any_30 : decode cX8_any 30 = .ok (.ireturn, 1) := dk_172 (dk_at dksX8_any_1 7 rfl rfl)
theorem dX8_any_31 : decode cX8_any 31 = .ok (.aload_n 0, 1) := dk_42 (dk_at dksX8_any_1 8 rfl rfl)
theorem dX8_any_32 : decode cX8_any 32 = .ok (.bipush (-11), 2) := dk_16 245 (dk_at dksX8_any_1 9 rfl rfl)
theorem dX8_any_34 : decode cX8_any 34 = .ok (.invokevirtual 205, 3) := dk_182 0 205 (dk_at dksX8_any_1 11 rfl rfl)
theorem dX8_any_37 : decode cX8_any 37 = .ok (.goto (-28), 3) := dk_167 255 228 (dk_at dksX8_any_1 14 rfl rfl)
theorem dX8_any_40 : decode cX8_any 40 = .ok (.iconst 1, 1) := dk_4 (dk_at dksX8_any_1 17 rfl rfl)
theorem dX8_any_41 : decode cX8_any 41 = .ok (.ireturn, 1) := dk_172 (dk_at dksX8_any_1 18 rfl rfl)
abbrev cX8_both : ByteArray := prog_16_method_24_code
def yX8_both : MethodName := ⟨RX8, "both", "()Z"⟩
def dkwX8_both_1 : List UInt8 := [182, 0, 209, 154, 0, 5, 3, 172, 42, 16, 244, 182, 0, 205, 167, 255, 228, 4, 172]
abbrev dktX8_both_1 : List UInt8 := dkwX8_both_1 ++ []
def dkwX8_both_0 : List UInt8 := [42, 182, 0, 209, 154, 0, 5, 3, 172, 42, 18, 212, 182, 0, 178, 153, 0, 25, 42, 182, 0, 202, 42]
abbrev dktX8_both_0 : List UInt8 := dkwX8_both_0 ++ dktX8_both_1
theorem dksX8_both_0 : cX8_both.data.toList.drop 0 = dktX8_both_0 := by decide +kernel
theorem dksX8_both_1 : cX8_both.data.toList.drop 23 = dktX8_both_1 := dk_seg dksX8_both_0 23 rfl rfl
theorem dX8_both_0 : decode cX8_both 0 = .ok (.aload_n 0, 1) := dk_42 (dk_at dksX8_both_0 0 rfl rfl)
theorem dX8_both_1 : decode cX8_both 1 = .ok (.invokevirtual 209, 3) := dk_182 0 209 (dk_at dksX8_both_0 1 rfl rfl)
theorem dX8_both_4 : decode cX8_both 4 = .ok (.ifCond .ne 5, 3) := dk_154 0 5 (dk_at dksX8_both_0 4 rfl rfl)
theorem dX8_both_7 : decode cX8_both 7 = .ok (.iconst 0, 1) := dk_3 (dk_at dksX8_both_0 7 rfl rfl)
theorem dX8_both_8 : decode cX8_both 8 = .ok (.ireturn, 1) := dk_172 (dk_at dksX8_both_0 8 rfl rfl)
theorem dX8_both_9 : decode cX8_both 9 = .ok (.aload_n 0, 1) := dk_42 (dk_at dksX8_both_0 9 rfl rfl)
theorem dX8_both_10 : decode cX8_both 10 = .ok (.ldc 212, 2) := dk_18 212 (dk_at dksX8_both_0 10 rfl rfl)
theorem dX8_both_12 : decode cX8_both 12 = .ok (.invokevirtual 178, 3) := dk_182 0 178 (dk_at dksX8_both_0 12 rfl rfl)
theorem dX8_both_15 : decode cX8_both 15 = .ok (.ifCond .eq 25, 3) := dk_153 0 25 (dk_at dksX8_both_0 15 rfl rfl)
theorem dX8_both_18 : decode cX8_both 18 = .ok (.aload_n 0, 1) := dk_42 (dk_at dksX8_both_0 18 rfl rfl)
theorem dX8_both_19 : decode cX8_both 19 = .ok (.invokevirtual 202, 3) := dk_182 0 202 (dk_at dksX8_both_0 19 rfl rfl)
theorem dX8_both_22 : decode cX8_both 22 = .ok (.aload_n 0, 1) := dk_42 (dk_at dksX8_both_0 22 rfl rfl)
theorem dX8_both_23 : decode cX8_both 23 = .ok (.invokevirtual 209, 3) := dk_182 0 209 (dk_at dksX8_both_1 0 rfl rfl)
theorem dX8_both_26 : decode cX8_both 26 = .ok (.ifCond .ne 5, 3) := dk_154 0 5 (dk_at dksX8_both_1 3 rfl rfl)
theorem dX8_both_29 : decode cX8_both 29 = .ok (.iconst 0, 1) := dk_3 (dk_at dksX8_both_1 6 rfl rfl)
theorem dX8_both_30 : decode cX8_both 30 = .ok (.ireturn, 1) := dk_172 (dk_at dksX8_both_1 7 rfl rfl)
theorem dX8_both_31 : decode cX8_both 31 = .ok (.aload_n 0, 1) := dk_42 (dk_at dksX8_both_1 8 rfl rfl)
theorem dX8_both_32 : decode cX8_both 32 = .ok (.bipush (-12), 2) := dk_16 244 (dk_at dksX8_both_1 9 rfl rfl)
theorem dX8_both_34 : decode cX8_both 34 = .ok (.invokevirtual 205, 3) := dk_182 0 205 (dk_at dksX8_both_1 11 rfl rfl)
theorem dX8_both_37 : decode cX8_both 37 = .ok (.goto (-28), 3) := dk_167 255 228 (dk_at dksX8_both_1 14 rfl rfl)
theorem dX8_both_40 : decode cX8_both 40 = .ok (.iconst 1, 1) := dk_4 (dk_at dksX8_both_1 17 rfl rfl)
theorem dX8_both_41 : decode cX8_both 41 = .ok (.ireturn, 1) := dk_172 (dk_at dksX8_both_1 18 rfl rfl)
abbrev cX8_not : ByteArray := prog_16_method_25_code
def yX8_not : MethodName := ⟨RX8, "not", "()Z"⟩
def dkwX8_not_5 : List UInt8 := [182, 0, 205, 4, 172]
abbrev dktX8_not_5 : List UInt8 := dkwX8_not_5 ++ []
def dkwX8_not_4 : List UInt8 := [16, 242, 167, 0, 5, 16, 241, 60, 42, 182, 0, 202, 42, 182, 0, 218, 154, 0, 5, 3, 172, 42, 27]
abbrev dktX8_not_4 : List UInt8 := dkwX8_not_4 ++ dktX8_not_5
def dkwX8_not_3 : List UInt8 := [182, 0, 221, 154, 0, 12, 42, 16, 61, 182, 0, 221, 153, 0, 38, 42, 16, 60, 182, 0, 221, 153, 0, 8]
abbrev dktX8_not_3 : List UInt8 := dkwX8_not_3 ++ dktX8_not_4
def dkwX8_not_2 : List UInt8 := [100, 181, 0, 215, 42, 16, 243, 182, 0, 205, 4, 172, 42, 182, 0, 218, 154, 0, 5, 3, 172, 42, 16, 60]
abbrev dktX8_not_2 : List UInt8 := dkwX8_not_2 ++ dktX8_not_3
def dkwX8_not_1 : List UInt8 := [4, 96, 181, 0, 215, 42, 182, 0, 202, 42, 182, 0, 209, 154, 0, 5, 3, 172, 42, 89, 180, 0, 215, 4]
abbrev dktX8_not_1 : List UInt8 := dkwX8_not_1 ++ dktX8_not_2
def dkwX8_not_0 : List UInt8 := [42, 18, 214, 182, 0, 178, 153, 0, 54, 42, 180, 0, 215, 8, 160, 0, 5, 3, 172, 42, 89, 180, 0, 215]
abbrev dktX8_not_0 : List UInt8 := dkwX8_not_0 ++ dktX8_not_1
theorem dksX8_not_0 : cX8_not.data.toList.drop 0 = dktX8_not_0 := by decide +kernel
theorem dksX8_not_1 : cX8_not.data.toList.drop 24 = dktX8_not_1 := dk_seg dksX8_not_0 24 rfl rfl
theorem dksX8_not_2 : cX8_not.data.toList.drop 48 = dktX8_not_2 := dk_seg dksX8_not_1 24 rfl rfl
theorem dksX8_not_3 : cX8_not.data.toList.drop 72 = dktX8_not_3 := dk_seg dksX8_not_2 24 rfl rfl
theorem dksX8_not_4 : cX8_not.data.toList.drop 96 = dktX8_not_4 := dk_seg dksX8_not_3 24 rfl rfl
theorem dksX8_not_5 : cX8_not.data.toList.drop 119 = dktX8_not_5 := dk_seg dksX8_not_4 23 rfl rfl
theorem dX8_not_0 : decode cX8_not 0 = .ok (.aload_n 0, 1) := dk_42 (dk_at dksX8_not_0 0 rfl rfl)
theorem dX8_not_1 : decode cX8_not 1 = .ok (.ldc 214, 2) := dk_18 214 (dk_at dksX8_not_0 1 rfl rfl)
theorem dX8_not_3 : decode cX8_not 3 = .ok (.invokevirtual 178, 3) := dk_182 0 178 (dk_at dksX8_not_0 3 rfl rfl)
theorem dX8_not_6 : decode cX8_not 6 = .ok (.ifCond .eq 54, 3) := dk_153 0 54 (dk_at dksX8_not_0 6 rfl rfl)
theorem dX8_not_9 : decode cX8_not 9 = .ok (.aload_n 0, 1) := dk_42 (dk_at dksX8_not_0 9 rfl rfl)
theorem dX8_not_10 : decode cX8_not 10 = .ok (.getfield 215, 3) := dk_180 0 215 (dk_at dksX8_not_0 10 rfl rfl)
theorem dX8_not_13 : decode cX8_not 13 = .ok (.iconst 5, 1) := dk_8 (dk_at dksX8_not_0 13 rfl rfl)
theorem dX8_not_14 : decode cX8_not 14 = .ok (.if_icmp .ne 5, 3) := dk_160 0 5 (dk_at dksX8_not_0 14 rfl rfl)
theorem dX8_not_17 : decode cX8_not 17 = .ok (.iconst 0, 1) := dk_3 (dk_at dksX8_not_0 17 rfl rfl)
theorem dX8_not_18 : decode cX8_not 18 = .ok (.ireturn, 1) := dk_172 (dk_at dksX8_not_0 18 rfl rfl)
theorem dX8_not_19 : decode cX8_not 19 = .ok (.aload_n 0, 1) := dk_42 (dk_at dksX8_not_0 19 rfl rfl)
theorem dX8_not_20 : decode cX8_not 20 = .ok (.dup, 1) := dk_89 (dk_at dksX8_not_0 20 rfl rfl)
theorem dX8_not_21 : decode cX8_not 21 = .ok (.getfield 215, 3) := dk_180 0 215 (dk_at dksX8_not_0 21 rfl rfl)
theorem dX8_not_24 : decode cX8_not 24 = .ok (.iconst 1, 1) := dk_4 (dk_at dksX8_not_1 0 rfl rfl)
theorem dX8_not_25 : decode cX8_not 25 = .ok (.iadd, 1) := dk_96 (dk_at dksX8_not_1 1 rfl rfl)
theorem dX8_not_26 : decode cX8_not 26 = .ok (.putfield 215, 3) := dk_181 0 215 (dk_at dksX8_not_1 2 rfl rfl)
theorem dX8_not_29 : decode cX8_not 29 = .ok (.aload_n 0, 1) := dk_42 (dk_at dksX8_not_1 5 rfl rfl)
theorem dX8_not_30 : decode cX8_not 30 = .ok (.invokevirtual 202, 3) := dk_182 0 202 (dk_at dksX8_not_1 6 rfl rfl)
theorem dX8_not_33 : decode cX8_not 33 = .ok (.aload_n 0, 1) := dk_42 (dk_at dksX8_not_1 9 rfl rfl)
theorem dX8_not_34 : decode cX8_not 34 = .ok (.invokevirtual 209, 3) := dk_182 0 209 (dk_at dksX8_not_1 10 rfl rfl)
theorem dX8_not_37 : decode cX8_not 37 = .ok (.ifCond .ne 5, 3) := dk_154 0 5 (dk_at dksX8_not_1 13 rfl rfl)
theorem dX8_not_40 : decode cX8_not 40 = .ok (.iconst 0, 1) := dk_3 (dk_at dksX8_not_1 16 rfl rfl)
theorem dX8_not_41 : decode cX8_not 41 = .ok (.ireturn, 1) := dk_172 (dk_at dksX8_not_1 17 rfl rfl)
theorem dX8_not_42 : decode cX8_not 42 = .ok (.aload_n 0, 1) := dk_42 (dk_at dksX8_not_1 18 rfl rfl)
theorem dX8_not_43 : decode cX8_not 43 = .ok (.dup, 1) := dk_89 (dk_at dksX8_not_1 19 rfl rfl)
theorem dX8_not_44 : decode cX8_not 44 = .ok (.getfield 215, 3) := dk_180 0 215 (dk_at dksX8_not_1 20 rfl rfl)
theorem dX8_not_47 : decode cX8_not 47 = .ok (.iconst 1, 1) := dk_4 (dk_at dksX8_not_1 23 rfl rfl)
theorem dX8_not_48 : decode cX8_not 48 = .ok (.isub, 1) := dk_100 (dk_at dksX8_not_2 0 rfl rfl)
theorem dX8_not_49 : decode cX8_not 49 = .ok (.putfield 215, 3) := dk_181 0 215 (dk_at dksX8_not_2 1 rfl rfl)
theorem dX8_not_52 : decode cX8_not 52 = .ok (.aload_n 0, 1) := dk_42 (dk_at dksX8_not_2 4 rfl rfl)
theorem dX8_not_53 : decode cX8_not 53 = .ok (.bipush (-13), 2) := dk_16 243 (dk_at dksX8_not_2 5 rfl rfl)
theorem dX8_not_55 : decode cX8_not 55 = .ok (.invokevirtual 205, 3) := dk_182 0 205 (dk_at dksX8_not_2 7 rfl rfl)
theorem dX8_not_58 : decode cX8_not 58 = .ok (.iconst 1, 1) := dk_4 (dk_at dksX8_not_2 10 rfl rfl)
theorem dX8_not_59 : decode cX8_not 59 = .ok (.ireturn, 1) := dk_172 (dk_at dksX8_not_2 11 rfl rfl)
theorem dX8_not_60 : decode cX8_not 60 = .ok (.aload_n 0, 1) := dk_42 (dk_at dksX8_not_2 12 rfl rfl)
theorem dX8_not_61 : decode cX8_not 61 = .ok (.invokevirtual 218, 3) := dk_182 0 218 (dk_at dksX8_not_2 13 rfl rfl)
theorem dX8_not_64 : decode cX8_not 64 = .ok (.ifCond .ne 5, 3) := dk_154 0 5 (dk_at dksX8_not_2 16 rfl rfl)
theorem dX8_not_67 : decode cX8_not 67 = .ok (.iconst 0, 1) := dk_3 (dk_at dksX8_not_2 19 rfl rfl)
theorem dX8_not_68 : decode cX8_not 68 = .ok (.ireturn, 1) := dk_172 (dk_at dksX8_not_2 20 rfl rfl)
theorem dX8_not_69 : decode cX8_not 69 = .ok (.aload_n 0, 1) := dk_42 (dk_at dksX8_not_2 21 rfl rfl)
theorem dX8_not_70 : decode cX8_not 70 = .ok (.bipush 60, 2) := dk_16 60 (dk_at dksX8_not_2 22 rfl rfl)
theorem dX8_not_72 : decode cX8_not 72 = .ok (.invokevirtual 221, 3) := dk_182 0 221 (dk_at dksX8_not_3 0 rfl rfl)
theorem dX8_not_75 : decode cX8_not 75 = .ok (.ifCond .ne 12, 3) := dk_154 0 12 (dk_at dksX8_not_3 3 rfl rfl)
theorem dX8_not_78 : decode cX8_not 78 = .ok (.aload_n 0, 1) := dk_42 (dk_at dksX8_not_3 6 rfl rfl)
theorem dX8_not_79 : decode cX8_not 79 = .ok (.bipush 61, 2) := dk_16 61 (dk_at dksX8_not_3 7 rfl rfl)
theorem dX8_not_81 : decode cX8_not 81 = .ok (.invokevirtual 221, 3) := dk_182 0 221 (dk_at dksX8_not_3 9 rfl rfl)
theorem dX8_not_84 : decode cX8_not 84 = .ok (.ifCond .eq 38, 3) := dk_153 0 38 (dk_at dksX8_not_3 12 rfl rfl)
theorem dX8_not_87 : decode cX8_not 87 = .ok (.aload_n 0, 1) := dk_42 (dk_at dksX8_not_3 15 rfl rfl)
theorem dX8_not_88 : decode cX8_not 88 = .ok (.bipush 60, 2) := dk_16 60 (dk_at dksX8_not_3 16 rfl rfl)
theorem dX8_not_90 : decode cX8_not 90 = .ok (.invokevirtual 221, 3) := dk_182 0 221 (dk_at dksX8_not_3 18 rfl rfl)
theorem dX8_not_93 : decode cX8_not 93 = .ok (.ifCond .eq 8, 3) := dk_153 0 8 (dk_at dksX8_not_3 21 rfl rfl)
theorem dX8_not_96 : decode cX8_not 96 = .ok (.bipush (-14), 2) := dk_16 242 (dk_at dksX8_not_4 0 rfl rfl)
theorem dX8_not_98 : decode cX8_not 98 = .ok (.goto 5, 3) := dk_167 0 5 (dk_at dksX8_not_4 2 rfl rfl)
theorem dX8_not_101 : decode cX8_not 101 = .ok (.bipush (-15), 2) := dk_16 241 (dk_at dksX8_not_4 5 rfl rfl)
theorem dX8_not_103 : decode cX8_not 103 = .ok (.istore_n 1, 1) := dk_60 (dk_at dksX8_not_4 7 rfl rfl)
theorem dX8_not_104 : decode cX8_not 104 = .ok (.aload_n 0, 1) := dk_42 (dk_at dksX8_not_4 8 rfl rfl)
theorem dX8_not_105 : decode cX8_not 105 = .ok (.invokevirtual 202, 3) := dk_182 0 202 (dk_at dksX8_not_4 9 rfl rfl)
theorem dX8_not_108 : decode cX8_not 108 = .ok (.aload_n 0, 1) := dk_42 (dk_at dksX8_not_4 12 rfl rfl)
theorem dX8_not_109 : decode cX8_not 109 = .ok (.invokevirtual 218, 3) := dk_182 0 218 (dk_at dksX8_not_4 13 rfl rfl)
theorem dX8_not_112 : decode cX8_not 112 = .ok (.ifCond .ne 5, 3) := dk_154 0 5 (dk_at dksX8_not_4 16 rfl rfl)
theorem dX8_not_115 : decode cX8_not 115 = .ok (.iconst 0, 1) := dk_3 (dk_at dksX8_not_4 19 rfl rfl)
theorem dX8_not_116 : decode cX8_not 116 = .ok (.ireturn, 1) := dk_172 (dk_at dksX8_not_4 20 rfl rfl)
theorem dX8_not_117 : decode cX8_not 117 = .ok (.aload_n 0, 1) := dk_42 (dk_at dksX8_not_4 21 rfl rfl)
theorem dX8_not_118 : decode cX8_not 118 = .ok (.iload_n 1, 1) := dk_27 (dk_at dksX8_not_4 22 rfl rfl)
theorem dX8_not_119 : decode cX8_not 119 = .ok (.invokevirtual 205, 3) := dk_182 0 205 (dk_at dksX8_not_5 0 rfl rfl)
theorem dX8_not_122 : decode cX8_not 122 = .ok (.iconst 1, 1) := dk_4 (dk_at dksX8_not_5 3 rfl rfl)
theorem dX8_not_123 : decode cX8_not 123 = .ok (.ireturn, 1) := dk_172 (dk_at dksX8_not_5 4 rfl rfl)
abbrev cX8_put : ByteArray := prog_16_method_22_code
def yX8_put : MethodName := ⟨RX8, "put", "(I)V"⟩
def dkwX8_put_1 : List UInt8 := [27, 79, 177]
abbrev dktX8_put_1 : List UInt8 := dkwX8_put_1 ++ []
def dkwX8_put_0 : List UInt8 := [42, 180, 0, 34, 17, 0, 170, 42, 180, 0, 190, 104, 42, 89, 180, 0, 193, 90, 4, 96, 181, 0, 193, 96]
abbrev dktX8_put_0 : List UInt8 := dkwX8_put_0 ++ dktX8_put_1
theorem dksX8_put_0 : cX8_put.data.toList.drop 0 = dktX8_put_0 := by decide +kernel
theorem dksX8_put_1 : cX8_put.data.toList.drop 24 = dktX8_put_1 := dk_seg dksX8_put_0 24 rfl rfl
theorem dX8_put_0 : decode cX8_put 0 = .ok (.aload_n 0, 1) := dk_42 (dk_at dksX8_put_0 0 rfl rfl)
theorem dX8_put_1 : decode cX8_put 1 = .ok (.getfield 34, 3) := dk_180 0 34 (dk_at dksX8_put_0 1 rfl rfl)
theorem dX8_put_4 : decode cX8_put 4 = .ok (.sipush 170, 3) := dk_17 0 170 (dk_at dksX8_put_0 4 rfl rfl)
theorem dX8_put_7 : decode cX8_put 7 = .ok (.aload_n 0, 1) := dk_42 (dk_at dksX8_put_0 7 rfl rfl)
theorem dX8_put_8 : decode cX8_put 8 = .ok (.getfield 190, 3) := dk_180 0 190 (dk_at dksX8_put_0 8 rfl rfl)
theorem dX8_put_11 : decode cX8_put 11 = .ok (.imul, 1) := dk_104 (dk_at dksX8_put_0 11 rfl rfl)
theorem dX8_put_12 : decode cX8_put 12 = .ok (.aload_n 0, 1) := dk_42 (dk_at dksX8_put_0 12 rfl rfl)
theorem dX8_put_13 : decode cX8_put 13 = .ok (.dup, 1) := dk_89 (dk_at dksX8_put_0 13 rfl rfl)
theorem dX8_put_14 : decode cX8_put 14 = .ok (.getfield 193, 3) := dk_180 0 193 (dk_at dksX8_put_0 14 rfl rfl)
theorem dX8_put_17 : decode cX8_put 17 = .ok (.dup_x1, 1) := dk_90 (dk_at dksX8_put_0 17 rfl rfl)
theorem dX8_put_18 : decode cX8_put 18 = .ok (.iconst 1, 1) := dk_4 (dk_at dksX8_put_0 18 rfl rfl)
theorem dX8_put_19 : decode cX8_put 19 = .ok (.iadd, 1) := dk_96 (dk_at dksX8_put_0 19 rfl rfl)
theorem dX8_put_20 : decode cX8_put 20 = .ok (.putfield 193, 3) := dk_181 0 193 (dk_at dksX8_put_0 20 rfl rfl)
theorem dX8_put_23 : decode cX8_put 23 = .ok (.iadd, 1) := dk_96 (dk_at dksX8_put_0 23 rfl rfl)
theorem dX8_put_24 : decode cX8_put 24 = .ok (.iload_n 1, 1) := dk_27 (dk_at dksX8_put_1 0 rfl rfl)
theorem dX8_put_25 : decode cX8_put 25 = .ok (.iastore, 1) := dk_79 (dk_at dksX8_put_1 1 rfl rfl)
theorem dX8_put_26 : decode cX8_put 26 = .ok (.return_, 1) := dk_177 (dk_at dksX8_put_1 2 rfl rfl)
abbrev cX8_sum : ByteArray := prog_16_method_26_code
def yX8_sum : MethodName := ⟨RX8, "sum", "()Z"⟩
def dkwX8_sum_2 : List UInt8 := [42, 182, 0, 224, 154, 0, 5, 3, 172, 42, 27, 182, 0, 205, 167, 255, 203, 4, 172]
abbrev dktX8_sum_2 : List UInt8 := dkwX8_sum_2 ++ []
def dkwX8_sum_1 : List UInt8 := [153, 0, 41, 42, 16, 43, 182, 0, 221, 153, 0, 8, 16, 240, 167, 0, 5, 16, 239, 60, 42, 182, 0, 202]
abbrev dktX8_sum_1 : List UInt8 := dkwX8_sum_1 ++ dktX8_sum_2
def dkwX8_sum_0 : List UInt8 := [42, 182, 0, 224, 154, 0, 5, 3, 172, 42, 16, 43, 182, 0, 221, 154, 0, 12, 42, 16, 45, 182, 0, 221]
abbrev dktX8_sum_0 : List UInt8 := dkwX8_sum_0 ++ dktX8_sum_1
theorem dksX8_sum_0 : cX8_sum.data.toList.drop 0 = dktX8_sum_0 := by decide +kernel
theorem dksX8_sum_1 : cX8_sum.data.toList.drop 24 = dktX8_sum_1 := dk_seg dksX8_sum_0 24 rfl rfl
theorem dksX8_sum_2 : cX8_sum.data.toList.drop 48 = dktX8_sum_2 := dk_seg dksX8_sum_1 24 rfl rfl
theorem dX8_sum_0 : decode cX8_sum 0 = .ok (.aload_n 0, 1) := dk_42 (dk_at dksX8_sum_0 0 rfl rfl)
theorem dX8_sum_1 : decode cX8_sum 1 = .ok (.invokevirtual 224, 3) := dk_182 0 224 (dk_at dksX8_sum_0 1 rfl rfl)
theorem dX8_sum_4 : decode cX8_sum 4 = .ok (.ifCond .ne 5, 3) := dk_154 0 5 (dk_at dksX8_sum_0 4 rfl rfl)
theorem dX8_sum_7 : decode cX8_sum 7 = .ok (.iconst 0, 1) := dk_3 (dk_at dksX8_sum_0 7 rfl rfl)
theorem dX8_sum_8 : decode cX8_sum 8 = .ok (.ireturn, 1) := dk_172 (dk_at dksX8_sum_0 8 rfl rfl)
theorem dX8_sum_9 : decode cX8_sum 9 = .ok (.aload_n 0, 1) := dk_42 (dk_at dksX8_sum_0 9 rfl rfl)
theorem dX8_sum_10 : decode cX8_sum 10 = .ok (.bipush 43, 2) := dk_16 43 (dk_at dksX8_sum_0 10 rfl rfl)
theorem dX8_sum_12 : decode cX8_sum 12 = .ok (.invokevirtual 221, 3) := dk_182 0 221 (dk_at dksX8_sum_0 12 rfl rfl)
theorem dX8_sum_15 : decode cX8_sum 15 = .ok (.ifCond .ne 12, 3) := dk_154 0 12 (dk_at dksX8_sum_0 15 rfl rfl)
theorem dX8_sum_18 : decode cX8_sum 18 = .ok (.aload_n 0, 1) := dk_42 (dk_at dksX8_sum_0 18 rfl rfl)
theorem dX8_sum_19 : decode cX8_sum 19 = .ok (.bipush 45, 2) := dk_16 45 (dk_at dksX8_sum_0 19 rfl rfl)
theorem dX8_sum_21 : decode cX8_sum 21 = .ok (.invokevirtual 221, 3) := dk_182 0 221 (dk_at dksX8_sum_0 21 rfl rfl)
theorem dX8_sum_24 : decode cX8_sum 24 = .ok (.ifCond .eq 41, 3) := dk_153 0 41 (dk_at dksX8_sum_1 0 rfl rfl)
theorem dX8_sum_27 : decode cX8_sum 27 = .ok (.aload_n 0, 1) := dk_42 (dk_at dksX8_sum_1 3 rfl rfl)
theorem dX8_sum_28 : decode cX8_sum 28 = .ok (.bipush 43, 2) := dk_16 43 (dk_at dksX8_sum_1 4 rfl rfl)
theorem dX8_sum_30 : decode cX8_sum 30 = .ok (.invokevirtual 221, 3) := dk_182 0 221 (dk_at dksX8_sum_1 6 rfl rfl)
theorem dX8_sum_33 : decode cX8_sum 33 = .ok (.ifCond .eq 8, 3) := dk_153 0 8 (dk_at dksX8_sum_1 9 rfl rfl)
theorem dX8_sum_36 : decode cX8_sum 36 = .ok (.bipush (-16), 2) := dk_16 240 (dk_at dksX8_sum_1 12 rfl rfl)
theorem dX8_sum_38 : decode cX8_sum 38 = .ok (.goto 5, 3) := dk_167 0 5 (dk_at dksX8_sum_1 14 rfl rfl)
theorem dX8_sum_41 : decode cX8_sum 41 = .ok (.bipush (-17), 2) := dk_16 239 (dk_at dksX8_sum_1 17 rfl rfl)
theorem dX8_sum_43 : decode cX8_sum 43 = .ok (.istore_n 1, 1) := dk_60 (dk_at dksX8_sum_1 19 rfl rfl)
theorem dX8_sum_44 : decode cX8_sum 44 = .ok (.aload_n 0, 1) := dk_42 (dk_at dksX8_sum_1 20 rfl rfl)
theorem dX8_sum_45 : decode cX8_sum 45 = .ok (.invokevirtual 202, 3) := dk_182 0 202 (dk_at dksX8_sum_1 21 rfl rfl)
theorem dX8_sum_48 : decode cX8_sum 48 = .ok (.aload_n 0, 1) := dk_42 (dk_at dksX8_sum_2 0 rfl rfl)
theorem dX8_sum_49 : decode cX8_sum 49 = .ok (.invokevirtual 224, 3) := dk_182 0 224 (dk_at dksX8_sum_2 1 rfl rfl)
theorem dX8_sum_52 : decode cX8_sum 52 = .ok (.ifCond .ne 5, 3) := dk_154 0 5 (dk_at dksX8_sum_2 4 rfl rfl)
theorem dX8_sum_55 : decode cX8_sum 55 = .ok (.iconst 0, 1) := dk_3 (dk_at dksX8_sum_2 7 rfl rfl)
theorem dX8_sum_56 : decode cX8_sum 56 = .ok (.ireturn, 1) := dk_172 (dk_at dksX8_sum_2 8 rfl rfl)
theorem dX8_sum_57 : decode cX8_sum 57 = .ok (.aload_n 0, 1) := dk_42 (dk_at dksX8_sum_2 9 rfl rfl)
theorem dX8_sum_58 : decode cX8_sum 58 = .ok (.iload_n 1, 1) := dk_27 (dk_at dksX8_sum_2 10 rfl rfl)
theorem dX8_sum_59 : decode cX8_sum 59 = .ok (.invokevirtual 205, 3) := dk_182 0 205 (dk_at dksX8_sum_2 11 rfl rfl)
theorem dX8_sum_62 : decode cX8_sum 62 = .ok (.goto (-53), 3) := dk_167 255 203 (dk_at dksX8_sum_2 14 rfl rfl)
theorem dX8_sum_65 : decode cX8_sum 65 = .ok (.iconst 1, 1) := dk_4 (dk_at dksX8_sum_2 17 rfl rfl)
theorem dX8_sum_66 : decode cX8_sum 66 = .ok (.ireturn, 1) := dk_172 (dk_at dksX8_sum_2 18 rfl rfl)
abbrev cX8_term : ByteArray := prog_16_method_27_code
def yX8_term : MethodName := ⟨RX8, "term", "()Z"⟩
def dkwX8_term_1 : List UInt8 := [182, 0, 227, 154, 0, 5, 3, 172, 42, 16, 238, 182, 0, 205, 167, 255, 228, 4, 172]
abbrev dktX8_term_1 : List UInt8 := dkwX8_term_1 ++ []
def dkwX8_term_0 : List UInt8 := [42, 182, 0, 227, 154, 0, 5, 3, 172, 42, 16, 42, 182, 0, 221, 153, 0, 25, 42, 182, 0, 202, 42]
abbrev dktX8_term_0 : List UInt8 := dkwX8_term_0 ++ dktX8_term_1
theorem dksX8_term_0 : cX8_term.data.toList.drop 0 = dktX8_term_0 := by decide +kernel
theorem dksX8_term_1 : cX8_term.data.toList.drop 23 = dktX8_term_1 := dk_seg dksX8_term_0 23 rfl rfl
theorem dX8_term_0 : decode cX8_term 0 = .ok (.aload_n 0, 1) := dk_42 (dk_at dksX8_term_0 0 rfl rfl)
theorem dX8_term_1 : decode cX8_term 1 = .ok (.invokevirtual 227, 3) := dk_182 0 227 (dk_at dksX8_term_0 1 rfl rfl)
theorem dX8_term_4 : decode cX8_term 4 = .ok (.ifCond .ne 5, 3) := dk_154 0 5 (dk_at dksX8_term_0 4 rfl rfl)
theorem dX8_term_7 : decode cX8_term 7 = .ok (.iconst 0, 1) := dk_3 (dk_at dksX8_term_0 7 rfl rfl)
theorem dX8_term_8 : decode cX8_term 8 = .ok (.ireturn, 1) := dk_172 (dk_at dksX8_term_0 8 rfl rfl)
theorem dX8_term_9 : decode cX8_term 9 = .ok (.aload_n 0, 1) := dk_42 (dk_at dksX8_term_0 9 rfl rfl)
theorem dX8_term_10 : decode cX8_term 10 = .ok (.bipush 42, 2) := dk_16 42 (dk_at dksX8_term_0 10 rfl rfl)
theorem dX8_term_12 : decode cX8_term 12 = .ok (.invokevirtual 221, 3) := dk_182 0 221 (dk_at dksX8_term_0 12 rfl rfl)
theorem dX8_term_15 : decode cX8_term 15 = .ok (.ifCond .eq 25, 3) := dk_153 0 25 (dk_at dksX8_term_0 15 rfl rfl)
theorem dX8_term_18 : decode cX8_term 18 = .ok (.aload_n 0, 1) := dk_42 (dk_at dksX8_term_0 18 rfl rfl)
theorem dX8_term_19 : decode cX8_term 19 = .ok (.invokevirtual 202, 3) := dk_182 0 202 (dk_at dksX8_term_0 19 rfl rfl)
theorem dX8_term_22 : decode cX8_term 22 = .ok (.aload_n 0, 1) := dk_42 (dk_at dksX8_term_0 22 rfl rfl)
theorem dX8_term_23 : decode cX8_term 23 = .ok (.invokevirtual 227, 3) := dk_182 0 227 (dk_at dksX8_term_1 0 rfl rfl)
theorem dX8_term_26 : decode cX8_term 26 = .ok (.ifCond .ne 5, 3) := dk_154 0 5 (dk_at dksX8_term_1 3 rfl rfl)
theorem dX8_term_29 : decode cX8_term 29 = .ok (.iconst 0, 1) := dk_3 (dk_at dksX8_term_1 6 rfl rfl)
theorem dX8_term_30 : decode cX8_term 30 = .ok (.ireturn, 1) := dk_172 (dk_at dksX8_term_1 7 rfl rfl)
theorem dX8_term_31 : decode cX8_term 31 = .ok (.aload_n 0, 1) := dk_42 (dk_at dksX8_term_1 8 rfl rfl)
theorem dX8_term_32 : decode cX8_term 32 = .ok (.bipush (-18), 2) := dk_16 238 (dk_at dksX8_term_1 9 rfl rfl)
theorem dX8_term_34 : decode cX8_term 34 = .ok (.invokevirtual 205, 3) := dk_182 0 205 (dk_at dksX8_term_1 11 rfl rfl)
theorem dX8_term_37 : decode cX8_term 37 = .ok (.goto (-28), 3) := dk_167 255 228 (dk_at dksX8_term_1 14 rfl rfl)
theorem dX8_term_40 : decode cX8_term 40 = .ok (.iconst 1, 1) := dk_4 (dk_at dksX8_term_1 17 rfl rfl)
theorem dX8_term_41 : decode cX8_term 41 = .ok (.ireturn, 1) := dk_172 (dk_at dksX8_term_1 18 rfl rfl)
abbrev cX8_one : ByteArray := prog_16_method_28_code
def yX8_one : MethodName := ⟨RX8, "one", "()Z"⟩
def dkwX8_one_7 : List UInt8 := [42, 182, 0, 202, 4, 172]
abbrev dktX8_one_7 : List UInt8 := dkwX8_one_7 ++ []
def dkwX8_one_6 : List UInt8 := [153, 0, 12, 42, 16, 41, 182, 0, 221, 154, 0, 5, 3, 172, 42, 89, 180, 0, 215, 4, 100, 181, 0, 215]
abbrev dktX8_one_6 : List UInt8 := dkwX8_one_6 ++ dktX8_one_7
def dkwX8_one_5 : List UInt8 := [8, 160, 0, 5, 3, 172, 42, 89, 180, 0, 215, 4, 96, 181, 0, 215, 42, 182, 0, 202, 42, 182, 0, 233]
abbrev dktX8_one_5 : List UInt8 := dkwX8_one_5 ++ dktX8_one_6
def dkwX8_one_4 : List UInt8 := [181, 0, 215, 42, 16, 237, 182, 0, 205, 4, 172, 42, 16, 40, 182, 0, 221, 153, 0, 11, 42, 180, 0, 215]
abbrev dktX8_one_4 : List UInt8 := dkwX8_one_4 ++ dktX8_one_5
def dkwX8_one_3 : List UInt8 := [181, 0, 215, 42, 182, 0, 202, 42, 182, 0, 227, 154, 0, 5, 3, 172, 42, 89, 180, 0, 215, 4, 100]
abbrev dktX8_one_3 : List UInt8 := dkwX8_one_3 ++ dktX8_one_4
def dkwX8_one_2 : List UInt8 := [182, 0, 221, 153, 0, 54, 42, 180, 0, 215, 8, 160, 0, 5, 3, 172, 42, 89, 180, 0, 215, 4, 96]
abbrev dktX8_one_2 : List UInt8 := dkwX8_one_2 ++ dktX8_one_3
def dkwX8_one_1 : List UInt8 := [182, 0, 230, 60, 27, 158, 0, 15, 42, 27, 116, 182, 0, 205, 42, 182, 0, 202, 4, 172, 42, 16, 45]
abbrev dktX8_one_1 : List UInt8 := dkwX8_one_1 ++ dktX8_one_2
def dkwX8_one_0 : List UInt8 := [42, 180, 0, 165, 4, 160, 0, 17, 42, 42, 180, 0, 171, 182, 0, 205, 42, 182, 0, 202, 4, 172, 42]
abbrev dktX8_one_0 : List UInt8 := dkwX8_one_0 ++ dktX8_one_1
theorem dksX8_one_0 : cX8_one.data.toList.drop 0 = dktX8_one_0 := by decide +kernel
theorem dksX8_one_1 : cX8_one.data.toList.drop 23 = dktX8_one_1 := dk_seg dksX8_one_0 23 rfl rfl
theorem dksX8_one_2 : cX8_one.data.toList.drop 46 = dktX8_one_2 := dk_seg dksX8_one_1 23 rfl rfl
theorem dksX8_one_3 : cX8_one.data.toList.drop 69 = dktX8_one_3 := dk_seg dksX8_one_2 23 rfl rfl
theorem dksX8_one_4 : cX8_one.data.toList.drop 92 = dktX8_one_4 := dk_seg dksX8_one_3 23 rfl rfl
theorem dksX8_one_5 : cX8_one.data.toList.drop 116 = dktX8_one_5 := dk_seg dksX8_one_4 24 rfl rfl
theorem dksX8_one_6 : cX8_one.data.toList.drop 140 = dktX8_one_6 := dk_seg dksX8_one_5 24 rfl rfl
theorem dksX8_one_7 : cX8_one.data.toList.drop 164 = dktX8_one_7 := dk_seg dksX8_one_6 24 rfl rfl
theorem dX8_one_0 : decode cX8_one 0 = .ok (.aload_n 0, 1) := dk_42 (dk_at dksX8_one_0 0 rfl rfl)
theorem dX8_one_1 : decode cX8_one 1 = .ok (.getfield 165, 3) := dk_180 0 165 (dk_at dksX8_one_0 1 rfl rfl)
theorem dX8_one_4 : decode cX8_one 4 = .ok (.iconst 1, 1) := dk_4 (dk_at dksX8_one_0 4 rfl rfl)
theorem dX8_one_5 : decode cX8_one 5 = .ok (.if_icmp .ne 17, 3) := dk_160 0 17 (dk_at dksX8_one_0 5 rfl rfl)
theorem dX8_one_8 : decode cX8_one 8 = .ok (.aload_n 0, 1) := dk_42 (dk_at dksX8_one_0 8 rfl rfl)
theorem dX8_one_9 : decode cX8_one 9 = .ok (.aload_n 0, 1) := dk_42 (dk_at dksX8_one_0 9 rfl rfl)
theorem dX8_one_10 : decode cX8_one 10 = .ok (.getfield 171, 3) := dk_180 0 171 (dk_at dksX8_one_0 10 rfl rfl)
theorem dX8_one_13 : decode cX8_one 13 = .ok (.invokevirtual 205, 3) := dk_182 0 205 (dk_at dksX8_one_0 13 rfl rfl)
theorem dX8_one_16 : decode cX8_one 16 = .ok (.aload_n 0, 1) := dk_42 (dk_at dksX8_one_0 16 rfl rfl)
theorem dX8_one_17 : decode cX8_one 17 = .ok (.invokevirtual 202, 3) := dk_182 0 202 (dk_at dksX8_one_0 17 rfl rfl)
theorem dX8_one_20 : decode cX8_one 20 = .ok (.iconst 1, 1) := dk_4 (dk_at dksX8_one_0 20 rfl rfl)
theorem dX8_one_21 : decode cX8_one 21 = .ok (.ireturn, 1) := dk_172 (dk_at dksX8_one_0 21 rfl rfl)
theorem dX8_one_22 : decode cX8_one 22 = .ok (.aload_n 0, 1) := dk_42 (dk_at dksX8_one_0 22 rfl rfl)
theorem dX8_one_23 : decode cX8_one 23 = .ok (.invokevirtual 230, 3) := dk_182 0 230 (dk_at dksX8_one_1 0 rfl rfl)
theorem dX8_one_26 : decode cX8_one 26 = .ok (.istore_n 1, 1) := dk_60 (dk_at dksX8_one_1 3 rfl rfl)
theorem dX8_one_27 : decode cX8_one 27 = .ok (.iload_n 1, 1) := dk_27 (dk_at dksX8_one_1 4 rfl rfl)
theorem dX8_one_28 : decode cX8_one 28 = .ok (.ifCond .le 15, 3) := dk_158 0 15 (dk_at dksX8_one_1 5 rfl rfl)
theorem dX8_one_31 : decode cX8_one 31 = .ok (.aload_n 0, 1) := dk_42 (dk_at dksX8_one_1 8 rfl rfl)
theorem dX8_one_32 : decode cX8_one 32 = .ok (.iload_n 1, 1) := dk_27 (dk_at dksX8_one_1 9 rfl rfl)
theorem dX8_one_33 : decode cX8_one 33 = .ok (.ineg, 1) := dk_116 (dk_at dksX8_one_1 10 rfl rfl)
theorem dX8_one_34 : decode cX8_one 34 = .ok (.invokevirtual 205, 3) := dk_182 0 205 (dk_at dksX8_one_1 11 rfl rfl)
theorem dX8_one_37 : decode cX8_one 37 = .ok (.aload_n 0, 1) := dk_42 (dk_at dksX8_one_1 14 rfl rfl)
theorem dX8_one_38 : decode cX8_one 38 = .ok (.invokevirtual 202, 3) := dk_182 0 202 (dk_at dksX8_one_1 15 rfl rfl)
theorem dX8_one_41 : decode cX8_one 41 = .ok (.iconst 1, 1) := dk_4 (dk_at dksX8_one_1 18 rfl rfl)
theorem dX8_one_42 : decode cX8_one 42 = .ok (.ireturn, 1) := dk_172 (dk_at dksX8_one_1 19 rfl rfl)
theorem dX8_one_43 : decode cX8_one 43 = .ok (.aload_n 0, 1) := dk_42 (dk_at dksX8_one_1 20 rfl rfl)
theorem dX8_one_44 : decode cX8_one 44 = .ok (.bipush 45, 2) := dk_16 45 (dk_at dksX8_one_1 21 rfl rfl)
theorem dX8_one_46 : decode cX8_one 46 = .ok (.invokevirtual 221, 3) := dk_182 0 221 (dk_at dksX8_one_2 0 rfl rfl)
theorem dX8_one_49 : decode cX8_one 49 = .ok (.ifCond .eq 54, 3) := dk_153 0 54 (dk_at dksX8_one_2 3 rfl rfl)
theorem dX8_one_52 : decode cX8_one 52 = .ok (.aload_n 0, 1) := dk_42 (dk_at dksX8_one_2 6 rfl rfl)
theorem dX8_one_53 : decode cX8_one 53 = .ok (.getfield 215, 3) := dk_180 0 215 (dk_at dksX8_one_2 7 rfl rfl)
theorem dX8_one_56 : decode cX8_one 56 = .ok (.iconst 5, 1) := dk_8 (dk_at dksX8_one_2 10 rfl rfl)
theorem dX8_one_57 : decode cX8_one 57 = .ok (.if_icmp .ne 5, 3) := dk_160 0 5 (dk_at dksX8_one_2 11 rfl rfl)
theorem dX8_one_60 : decode cX8_one 60 = .ok (.iconst 0, 1) := dk_3 (dk_at dksX8_one_2 14 rfl rfl)
theorem dX8_one_61 : decode cX8_one 61 = .ok (.ireturn, 1) := dk_172 (dk_at dksX8_one_2 15 rfl rfl)
theorem dX8_one_62 : decode cX8_one 62 = .ok (.aload_n 0, 1) := dk_42 (dk_at dksX8_one_2 16 rfl rfl)
theorem dX8_one_63 : decode cX8_one 63 = .ok (.dup, 1) := dk_89 (dk_at dksX8_one_2 17 rfl rfl)
theorem dX8_one_64 : decode cX8_one 64 = .ok (.getfield 215, 3) := dk_180 0 215 (dk_at dksX8_one_2 18 rfl rfl)
theorem dX8_one_67 : decode cX8_one 67 = .ok (.iconst 1, 1) := dk_4 (dk_at dksX8_one_2 21 rfl rfl)
theorem dX8_one_68 : decode cX8_one 68 = .ok (.iadd, 1) := dk_96 (dk_at dksX8_one_2 22 rfl rfl)
theorem dX8_one_69 : decode cX8_one 69 = .ok (.putfield 215, 3) := dk_181 0 215 (dk_at dksX8_one_3 0 rfl rfl)
theorem dX8_one_72 : decode cX8_one 72 = .ok (.aload_n 0, 1) := dk_42 (dk_at dksX8_one_3 3 rfl rfl)
theorem dX8_one_73 : decode cX8_one 73 = .ok (.invokevirtual 202, 3) := dk_182 0 202 (dk_at dksX8_one_3 4 rfl rfl)
theorem dX8_one_76 : decode cX8_one 76 = .ok (.aload_n 0, 1) := dk_42 (dk_at dksX8_one_3 7 rfl rfl)
theorem dX8_one_77 : decode cX8_one 77 = .ok (.invokevirtual 227, 3) := dk_182 0 227 (dk_at dksX8_one_3 8 rfl rfl)
theorem dX8_one_80 : decode cX8_one 80 = .ok (.ifCond .ne 5, 3) := dk_154 0 5 (dk_at dksX8_one_3 11 rfl rfl)
theorem dX8_one_83 : decode cX8_one 83 = .ok (.iconst 0, 1) := dk_3 (dk_at dksX8_one_3 14 rfl rfl)
theorem dX8_one_84 : decode cX8_one 84 = .ok (.ireturn, 1) := dk_172 (dk_at dksX8_one_3 15 rfl rfl)
theorem dX8_one_85 : decode cX8_one 85 = .ok (.aload_n 0, 1) := dk_42 (dk_at dksX8_one_3 16 rfl rfl)
theorem dX8_one_86 : decode cX8_one 86 = .ok (.dup, 1) := dk_89 (dk_at dksX8_one_3 17 rfl rfl)
theorem dX8_one_87 : decode cX8_one 87 = .ok (.getfield 215, 3) := dk_180 0 215 (dk_at dksX8_one_3 18 rfl rfl)
theorem dX8_one_90 : decode cX8_one 90 = .ok (.iconst 1, 1) := dk_4 (dk_at dksX8_one_3 21 rfl rfl)
theorem dX8_one_91 : decode cX8_one 91 = .ok (.isub, 1) := dk_100 (dk_at dksX8_one_3 22 rfl rfl)
theorem dX8_one_92 : decode cX8_one 92 = .ok (.putfield 215, 3) := dk_181 0 215 (dk_at dksX8_one_4 0 rfl rfl)
theorem dX8_one_95 : decode cX8_one 95 = .ok (.aload_n 0, 1) := dk_42 (dk_at dksX8_one_4 3 rfl rfl)
theorem dX8_one_96 : decode cX8_one 96 = .ok (.bipush (-19), 2) := dk_16 237 (dk_at dksX8_one_4 4 rfl rfl)
theorem dX8_one_98 : decode cX8_one 98 = .ok (.invokevirtual 205, 3) := dk_182 0 205 (dk_at dksX8_one_4 6 rfl rfl)
theorem dX8_one_101 : decode cX8_one 101 = .ok (.iconst 1, 1) := dk_4 (dk_at dksX8_one_4 9 rfl rfl)
theorem dX8_one_102 : decode cX8_one 102 = .ok (.ireturn, 1) := dk_172 (dk_at dksX8_one_4 10 rfl rfl)
theorem dX8_one_103 : decode cX8_one 103 = .ok (.aload_n 0, 1) := dk_42 (dk_at dksX8_one_4 11 rfl rfl)
theorem dX8_one_104 : decode cX8_one 104 = .ok (.bipush 40, 2) := dk_16 40 (dk_at dksX8_one_4 12 rfl rfl)
theorem dX8_one_106 : decode cX8_one 106 = .ok (.invokevirtual 221, 3) := dk_182 0 221 (dk_at dksX8_one_4 14 rfl rfl)
theorem dX8_one_109 : decode cX8_one 109 = .ok (.ifCond .eq 11, 3) := dk_153 0 11 (dk_at dksX8_one_4 17 rfl rfl)
theorem dX8_one_112 : decode cX8_one 112 = .ok (.aload_n 0, 1) := dk_42 (dk_at dksX8_one_4 20 rfl rfl)
theorem dX8_one_113 : decode cX8_one 113 = .ok (.getfield 215, 3) := dk_180 0 215 (dk_at dksX8_one_4 21 rfl rfl)
theorem dX8_one_116 : decode cX8_one 116 = .ok (.iconst 5, 1) := dk_8 (dk_at dksX8_one_5 0 rfl rfl)
theorem dX8_one_117 : decode cX8_one 117 = .ok (.if_icmp .ne 5, 3) := dk_160 0 5 (dk_at dksX8_one_5 1 rfl rfl)
theorem dX8_one_120 : decode cX8_one 120 = .ok (.iconst 0, 1) := dk_3 (dk_at dksX8_one_5 4 rfl rfl)
theorem dX8_one_121 : decode cX8_one 121 = .ok (.ireturn, 1) := dk_172 (dk_at dksX8_one_5 5 rfl rfl)
theorem dX8_one_122 : decode cX8_one 122 = .ok (.aload_n 0, 1) := dk_42 (dk_at dksX8_one_5 6 rfl rfl)
theorem dX8_one_123 : decode cX8_one 123 = .ok (.dup, 1) := dk_89 (dk_at dksX8_one_5 7 rfl rfl)
theorem dX8_one_124 : decode cX8_one 124 = .ok (.getfield 215, 3) := dk_180 0 215 (dk_at dksX8_one_5 8 rfl rfl)
theorem dX8_one_127 : decode cX8_one 127 = .ok (.iconst 1, 1) := dk_4 (dk_at dksX8_one_5 11 rfl rfl)
theorem dX8_one_128 : decode cX8_one 128 = .ok (.iadd, 1) := dk_96 (dk_at dksX8_one_5 12 rfl rfl)
theorem dX8_one_129 : decode cX8_one 129 = .ok (.putfield 215, 3) := dk_181 0 215 (dk_at dksX8_one_5 13 rfl rfl)
theorem dX8_one_132 : decode cX8_one 132 = .ok (.aload_n 0, 1) := dk_42 (dk_at dksX8_one_5 16 rfl rfl)
theorem dX8_one_133 : decode cX8_one 133 = .ok (.invokevirtual 202, 3) := dk_182 0 202 (dk_at dksX8_one_5 17 rfl rfl)
theorem dX8_one_136 : decode cX8_one 136 = .ok (.aload_n 0, 1) := dk_42 (dk_at dksX8_one_5 20 rfl rfl)
theorem dX8_one_137 : decode cX8_one 137 = .ok (.invokevirtual 233, 3) := dk_182 0 233 (dk_at dksX8_one_5 21 rfl rfl)
theorem dX8_one_140 : decode cX8_one 140 = .ok (.ifCond .eq 12, 3) := dk_153 0 12 (dk_at dksX8_one_6 0 rfl rfl)
theorem dX8_one_143 : decode cX8_one 143 = .ok (.aload_n 0, 1) := dk_42 (dk_at dksX8_one_6 3 rfl rfl)
theorem dX8_one_144 : decode cX8_one 144 = .ok (.bipush 41, 2) := dk_16 41 (dk_at dksX8_one_6 4 rfl rfl)
theorem dX8_one_146 : decode cX8_one 146 = .ok (.invokevirtual 221, 3) := dk_182 0 221 (dk_at dksX8_one_6 6 rfl rfl)
theorem dX8_one_149 : decode cX8_one 149 = .ok (.ifCond .ne 5, 3) := dk_154 0 5 (dk_at dksX8_one_6 9 rfl rfl)
theorem dX8_one_152 : decode cX8_one 152 = .ok (.iconst 0, 1) := dk_3 (dk_at dksX8_one_6 12 rfl rfl)
theorem dX8_one_153 : decode cX8_one 153 = .ok (.ireturn, 1) := dk_172 (dk_at dksX8_one_6 13 rfl rfl)
theorem dX8_one_154 : decode cX8_one 154 = .ok (.aload_n 0, 1) := dk_42 (dk_at dksX8_one_6 14 rfl rfl)
theorem dX8_one_155 : decode cX8_one 155 = .ok (.dup, 1) := dk_89 (dk_at dksX8_one_6 15 rfl rfl)
theorem dX8_one_156 : decode cX8_one 156 = .ok (.getfield 215, 3) := dk_180 0 215 (dk_at dksX8_one_6 16 rfl rfl)
theorem dX8_one_159 : decode cX8_one 159 = .ok (.iconst 1, 1) := dk_4 (dk_at dksX8_one_6 19 rfl rfl)
theorem dX8_one_160 : decode cX8_one 160 = .ok (.isub, 1) := dk_100 (dk_at dksX8_one_6 20 rfl rfl)
theorem dX8_one_161 : decode cX8_one 161 = .ok (.putfield 215, 3) := dk_181 0 215 (dk_at dksX8_one_6 21 rfl rfl)
theorem dX8_one_164 : decode cX8_one 164 = .ok (.aload_n 0, 1) := dk_42 (dk_at dksX8_one_7 0 rfl rfl)
theorem dX8_one_165 : decode cX8_one 165 = .ok (.invokevirtual 202, 3) := dk_182 0 202 (dk_at dksX8_one_7 1 rfl rfl)
theorem dX8_one_168 : decode cX8_one 168 = .ok (.iconst 1, 1) := dk_4 (dk_at dksX8_one_7 4 rfl rfl)
theorem dX8_one_169 : decode cX8_one 169 = .ok (.ireturn, 1) := dk_172 (dk_at dksX8_one_7 5 rfl rfl)
abbrev cX8_name : ByteArray := prog_16_method_21_code
def yX8_name : MethodName := ⟨RX8, "name", "()I"⟩
def dkwX8_name_2 : List UInt8 := [182, 0, 178, 153, 0, 5, 8, 172, 42, 18, 189, 182, 0, 178, 153, 0, 6, 16, 6, 172, 3, 172]
abbrev dktX8_name_2 : List UInt8 := dkwX8_name_2 ++ []
def dkwX8_name_1 : List UInt8 := [18, 183, 182, 0, 178, 153, 0, 5, 6, 172, 42, 18, 185, 182, 0, 178, 153, 0, 5, 7, 172, 42, 18, 187]
abbrev dktX8_name_1 : List UInt8 := dkwX8_name_1 ++ dktX8_name_2
def dkwX8_name_0 : List UInt8 := [42, 18, 177, 182, 0, 178, 153, 0, 5, 4, 172, 42, 18, 182, 182, 0, 178, 153, 0, 5, 5, 172, 42]
abbrev dktX8_name_0 : List UInt8 := dkwX8_name_0 ++ dktX8_name_1
theorem dksX8_name_0 : cX8_name.data.toList.drop 0 = dktX8_name_0 := by decide +kernel
theorem dksX8_name_1 : cX8_name.data.toList.drop 23 = dktX8_name_1 := dk_seg dksX8_name_0 23 rfl rfl
theorem dksX8_name_2 : cX8_name.data.toList.drop 47 = dktX8_name_2 := dk_seg dksX8_name_1 24 rfl rfl
theorem dX8_name_0 : decode cX8_name 0 = .ok (.aload_n 0, 1) := dk_42 (dk_at dksX8_name_0 0 rfl rfl)
theorem dX8_name_1 : decode cX8_name 1 = .ok (.ldc 177, 2) := dk_18 177 (dk_at dksX8_name_0 1 rfl rfl)
theorem dX8_name_3 : decode cX8_name 3 = .ok (.invokevirtual 178, 3) := dk_182 0 178 (dk_at dksX8_name_0 3 rfl rfl)
theorem dX8_name_6 : decode cX8_name 6 = .ok (.ifCond .eq 5, 3) := dk_153 0 5 (dk_at dksX8_name_0 6 rfl rfl)
theorem dX8_name_9 : decode cX8_name 9 = .ok (.iconst 1, 1) := dk_4 (dk_at dksX8_name_0 9 rfl rfl)
theorem dX8_name_10 : decode cX8_name 10 = .ok (.ireturn, 1) := dk_172 (dk_at dksX8_name_0 10 rfl rfl)
theorem dX8_name_11 : decode cX8_name 11 = .ok (.aload_n 0, 1) := dk_42 (dk_at dksX8_name_0 11 rfl rfl)
theorem dX8_name_12 : decode cX8_name 12 = .ok (.ldc 182, 2) := dk_18 182 (dk_at dksX8_name_0 12 rfl rfl)
theorem dX8_name_14 : decode cX8_name 14 = .ok (.invokevirtual 178, 3) := dk_182 0 178 (dk_at dksX8_name_0 14 rfl rfl)
theorem dX8_name_17 : decode cX8_name 17 = .ok (.ifCond .eq 5, 3) := dk_153 0 5 (dk_at dksX8_name_0 17 rfl rfl)
theorem dX8_name_20 : decode cX8_name 20 = .ok (.iconst 2, 1) := dk_5 (dk_at dksX8_name_0 20 rfl rfl)
theorem dX8_name_21 : decode cX8_name 21 = .ok (.ireturn, 1) := dk_172 (dk_at dksX8_name_0 21 rfl rfl)
theorem dX8_name_22 : decode cX8_name 22 = .ok (.aload_n 0, 1) := dk_42 (dk_at dksX8_name_0 22 rfl rfl)
theorem dX8_name_23 : decode cX8_name 23 = .ok (.ldc 183, 2) := dk_18 183 (dk_at dksX8_name_1 0 rfl rfl)
theorem dX8_name_25 : decode cX8_name 25 = .ok (.invokevirtual 178, 3) := dk_182 0 178 (dk_at dksX8_name_1 2 rfl rfl)
theorem dX8_name_28 : decode cX8_name 28 = .ok (.ifCond .eq 5, 3) := dk_153 0 5 (dk_at dksX8_name_1 5 rfl rfl)
theorem dX8_name_31 : decode cX8_name 31 = .ok (.iconst 3, 1) := dk_6 (dk_at dksX8_name_1 8 rfl rfl)
theorem dX8_name_32 : decode cX8_name 32 = .ok (.ireturn, 1) := dk_172 (dk_at dksX8_name_1 9 rfl rfl)
theorem dX8_name_33 : decode cX8_name 33 = .ok (.aload_n 0, 1) := dk_42 (dk_at dksX8_name_1 10 rfl rfl)
theorem dX8_name_34 : decode cX8_name 34 = .ok (.ldc 185, 2) := dk_18 185 (dk_at dksX8_name_1 11 rfl rfl)
theorem dX8_name_36 : decode cX8_name 36 = .ok (.invokevirtual 178, 3) := dk_182 0 178 (dk_at dksX8_name_1 13 rfl rfl)
theorem dX8_name_39 : decode cX8_name 39 = .ok (.ifCond .eq 5, 3) := dk_153 0 5 (dk_at dksX8_name_1 16 rfl rfl)
theorem dX8_name_42 : decode cX8_name 42 = .ok (.iconst 4, 1) := dk_7 (dk_at dksX8_name_1 19 rfl rfl)
theorem dX8_name_43 : decode cX8_name 43 = .ok (.ireturn, 1) := dk_172 (dk_at dksX8_name_1 20 rfl rfl)
theorem dX8_name_44 : decode cX8_name 44 = .ok (.aload_n 0, 1) := dk_42 (dk_at dksX8_name_1 21 rfl rfl)
theorem dX8_name_45 : decode cX8_name 45 = .ok (.ldc 187, 2) := dk_18 187 (dk_at dksX8_name_1 22 rfl rfl)
theorem dX8_name_47 : decode cX8_name 47 = .ok (.invokevirtual 178, 3) := dk_182 0 178 (dk_at dksX8_name_2 0 rfl rfl)
theorem dX8_name_50 : decode cX8_name 50 = .ok (.ifCond .eq 5, 3) := dk_153 0 5 (dk_at dksX8_name_2 3 rfl rfl)
theorem dX8_name_53 : decode cX8_name 53 = .ok (.iconst 5, 1) := dk_8 (dk_at dksX8_name_2 6 rfl rfl)
theorem dX8_name_54 : decode cX8_name 54 = .ok (.ireturn, 1) := dk_172 (dk_at dksX8_name_2 7 rfl rfl)
theorem dX8_name_55 : decode cX8_name 55 = .ok (.aload_n 0, 1) := dk_42 (dk_at dksX8_name_2 8 rfl rfl)
theorem dX8_name_56 : decode cX8_name 56 = .ok (.ldc 189, 2) := dk_18 189 (dk_at dksX8_name_2 9 rfl rfl)
theorem dX8_name_58 : decode cX8_name 58 = .ok (.invokevirtual 178, 3) := dk_182 0 178 (dk_at dksX8_name_2 11 rfl rfl)
theorem dX8_name_61 : decode cX8_name 61 = .ok (.ifCond .eq 6, 3) := dk_153 0 6 (dk_at dksX8_name_2 14 rfl rfl)
theorem dX8_name_64 : decode cX8_name 64 = .ok (.bipush 6, 2) := dk_16 6 (dk_at dksX8_name_2 17 rfl rfl)
theorem dX8_name_66 : decode cX8_name 66 = .ok (.ireturn, 1) := dk_172 (dk_at dksX8_name_2 19 rfl rfl)
theorem dX8_name_67 : decode cX8_name 67 = .ok (.iconst 0, 1) := dk_3 (dk_at dksX8_name_2 20 rfl rfl)
theorem dX8_name_68 : decode cX8_name 68 = .ok (.ireturn, 1) := dk_172 (dk_at dksX8_name_2 21 rfl rfl)
abbrev cX8_is_2 : ByteArray := prog_16_method_20_code
def yX8_is_2 : MethodName := ⟨RX8, "is", "(C)Z"⟩
def dkwX8_is_2_0 : List UInt8 := [42, 180, 0, 165, 6, 160, 0, 15, 42, 180, 0, 171, 27, 160, 0, 7, 4, 167, 0, 4, 3, 172]
abbrev dktX8_is_2_0 : List UInt8 := dkwX8_is_2_0 ++ []
theorem dksX8_is_2_0 : cX8_is_2.data.toList.drop 0 = dktX8_is_2_0 := by decide +kernel
theorem dX8_is_2_0 : decode cX8_is_2 0 = .ok (.aload_n 0, 1) := dk_42 (dk_at dksX8_is_2_0 0 rfl rfl)
theorem dX8_is_2_1 : decode cX8_is_2 1 = .ok (.getfield 165, 3) := dk_180 0 165 (dk_at dksX8_is_2_0 1 rfl rfl)
theorem dX8_is_2_4 : decode cX8_is_2 4 = .ok (.iconst 3, 1) := dk_6 (dk_at dksX8_is_2_0 4 rfl rfl)
theorem dX8_is_2_5 : decode cX8_is_2 5 = .ok (.if_icmp .ne 15, 3) := dk_160 0 15 (dk_at dksX8_is_2_0 5 rfl rfl)
theorem dX8_is_2_8 : decode cX8_is_2 8 = .ok (.aload_n 0, 1) := dk_42 (dk_at dksX8_is_2_0 8 rfl rfl)
theorem dX8_is_2_9 : decode cX8_is_2 9 = .ok (.getfield 171, 3) := dk_180 0 171 (dk_at dksX8_is_2_0 9 rfl rfl)
theorem dX8_is_2_12 : decode cX8_is_2 12 = .ok (.iload_n 1, 1) := dk_27 (dk_at dksX8_is_2_0 12 rfl rfl)
theorem dX8_is_2_13 : decode cX8_is_2 13 = .ok (.if_icmp .ne 7, 3) := dk_160 0 7 (dk_at dksX8_is_2_0 13 rfl rfl)
theorem dX8_is_2_16 : decode cX8_is_2 16 = .ok (.iconst 1, 1) := dk_4 (dk_at dksX8_is_2_0 16 rfl rfl)
theorem dX8_is_2_17 : decode cX8_is_2 17 = .ok (.goto 4, 3) := dk_167 0 4 (dk_at dksX8_is_2_0 17 rfl rfl)
theorem dX8_is_2_20 : decode cX8_is_2 20 = .ok (.iconst 0, 1) := dk_3 (dk_at dksX8_is_2_0 20 rfl rfl)
theorem dX8_is_2_21 : decode cX8_is_2 21 = .ok (.ireturn, 1) := dk_172 (dk_at dksX8_is_2_0 21 rfl rfl)
abbrev cX8_boat : ByteArray := prog_16_method_5_code
def yX8_boat : MethodName := ⟨RX8, "boat", "(III)I"⟩
def dkwX8_boat_6 : List UInt8 := [79, 42, 89, 180, 0, 99, 90, 4, 96, 181, 0, 99, 172]
abbrev dktX8_boat_6 : List UInt8 := dkwX8_boat_6 ++ []
def dkwX8_boat_5 : List UInt8 := [17, 3, 232, 112, 79, 42, 180, 0, 25, 42, 180, 0, 99, 3, 79, 42, 180, 0, 28, 42, 180, 0, 99, 2]
abbrev dktX8_boat_5 : List UInt8 := dkwX8_boat_5 ++ dktX8_boat_6
def dkwX8_boat_4 : List UInt8 := [180, 0, 22, 42, 180, 0, 99, 29, 17, 3, 232, 108, 79, 42, 180, 0, 19, 42, 180, 0, 99, 29]
abbrev dktX8_boat_4 : List UInt8 := dkwX8_boat_4 ++ dktX8_boat_5
def dkwX8_boat_3 : List UInt8 := [180, 0, 99, 28, 16, 100, 108, 79, 42, 180, 0, 13, 42, 180, 0, 99, 28, 16, 100, 112, 79, 42]
abbrev dktX8_boat_3 : List UInt8 := dkwX8_boat_3 ++ dktX8_boat_4
def dkwX8_boat_2 : List UInt8 := [16, 7, 160, 0, 6, 16, 252, 172, 42, 180, 0, 7, 42, 180, 0, 99, 27, 79, 42, 180, 0, 16, 42]
abbrev dktX8_boat_2 : List UInt8 := dkwX8_boat_2 ++ dktX8_boat_3
def dkwX8_boat_1 : List UInt8 := [16, 9, 163, 0, 15, 29, 17, 19, 136, 18, 111, 184, 0, 102, 154, 0, 6, 16, 254, 172, 42, 180, 0, 99]
abbrev dktX8_boat_1 : List UInt8 := dkwX8_boat_1 ++ dktX8_boat_2
def dkwX8_boat_0 : List UInt8 := [27, 3, 8, 184, 0, 102, 153, 0, 35, 28, 3, 17, 18, 101, 184, 0, 102, 153, 0, 24, 28, 16, 100, 112]
abbrev dktX8_boat_0 : List UInt8 := dkwX8_boat_0 ++ dktX8_boat_1
theorem dksX8_boat_0 : cX8_boat.data.toList.drop 0 = dktX8_boat_0 := by decide +kernel
theorem dksX8_boat_1 : cX8_boat.data.toList.drop 24 = dktX8_boat_1 := dk_seg dksX8_boat_0 24 rfl rfl
theorem dksX8_boat_2 : cX8_boat.data.toList.drop 48 = dktX8_boat_2 := dk_seg dksX8_boat_1 24 rfl rfl
theorem dksX8_boat_3 : cX8_boat.data.toList.drop 71 = dktX8_boat_3 := dk_seg dksX8_boat_2 23 rfl rfl
theorem dksX8_boat_4 : cX8_boat.data.toList.drop 93 = dktX8_boat_4 := dk_seg dksX8_boat_3 22 rfl rfl
theorem dksX8_boat_5 : cX8_boat.data.toList.drop 115 = dktX8_boat_5 := dk_seg dksX8_boat_4 22 rfl rfl
theorem dksX8_boat_6 : cX8_boat.data.toList.drop 139 = dktX8_boat_6 := dk_seg dksX8_boat_5 24 rfl rfl
theorem dX8_boat_0 : decode cX8_boat 0 = .ok (.iload_n 1, 1) := dk_27 (dk_at dksX8_boat_0 0 rfl rfl)
theorem dX8_boat_1 : decode cX8_boat 1 = .ok (.iconst 0, 1) := dk_3 (dk_at dksX8_boat_0 1 rfl rfl)
theorem dX8_boat_2 : decode cX8_boat 2 = .ok (.iconst 5, 1) := dk_8 (dk_at dksX8_boat_0 2 rfl rfl)
theorem dX8_boat_3 : decode cX8_boat 3 = .ok (.invokestatic 102, 3) := dk_184 0 102 (dk_at dksX8_boat_0 3 rfl rfl)
theorem dX8_boat_6 : decode cX8_boat 6 = .ok (.ifCond .eq 35, 3) := dk_153 0 35 (dk_at dksX8_boat_0 6 rfl rfl)
theorem dX8_boat_9 : decode cX8_boat 9 = .ok (.iload_n 2, 1) := dk_28 (dk_at dksX8_boat_0 9 rfl rfl)
theorem dX8_boat_10 : decode cX8_boat 10 = .ok (.iconst 0, 1) := dk_3 (dk_at dksX8_boat_0 10 rfl rfl)
theorem dX8_boat_11 : decode cX8_boat 11 = .ok (.sipush 4709, 3) := dk_17 18 101 (dk_at dksX8_boat_0 11 rfl rfl)
theorem dX8_boat_14 : decode cX8_boat 14 = .ok (.invokestatic 102, 3) := dk_184 0 102 (dk_at dksX8_boat_0 14 rfl rfl)
theorem dX8_boat_17 : decode cX8_boat 17 = .ok (.ifCond .eq 24, 3) := dk_153 0 24 (dk_at dksX8_boat_0 17 rfl rfl)
theorem dX8_boat_20 : decode cX8_boat 20 = .ok (.iload_n 2, 1) := dk_28 (dk_at dksX8_boat_0 20 rfl rfl)
theorem dX8_boat_21 : decode cX8_boat 21 = .ok (.bipush 100, 2) := dk_16 100 (dk_at dksX8_boat_0 21 rfl rfl)
theorem dX8_boat_23 : decode cX8_boat 23 = .ok (.irem, 1) := dk_112 (dk_at dksX8_boat_0 23 rfl rfl)
theorem dX8_boat_24 : decode cX8_boat 24 = .ok (.bipush 9, 2) := dk_16 9 (dk_at dksX8_boat_1 0 rfl rfl)
theorem dX8_boat_26 : decode cX8_boat 26 = .ok (.if_icmp .gt 15, 3) := dk_163 0 15 (dk_at dksX8_boat_1 2 rfl rfl)
theorem dX8_boat_29 : decode cX8_boat 29 = .ok (.iload_n 3, 1) := dk_29 (dk_at dksX8_boat_1 5 rfl rfl)
theorem dX8_boat_30 : decode cX8_boat 30 = .ok (.sipush 5000, 3) := dk_17 19 136 (dk_at dksX8_boat_1 6 rfl rfl)
theorem dX8_boat_33 : decode cX8_boat 33 = .ok (.ldc 111, 2) := dk_18 111 (dk_at dksX8_boat_1 9 rfl rfl)
theorem dX8_boat_35 : decode cX8_boat 35 = .ok (.invokestatic 102, 3) := dk_184 0 102 (dk_at dksX8_boat_1 11 rfl rfl)
theorem dX8_boat_38 : decode cX8_boat 38 = .ok (.ifCond .ne 6, 3) := dk_154 0 6 (dk_at dksX8_boat_1 14 rfl rfl)
theorem dX8_boat_41 : decode cX8_boat 41 = .ok (.bipush (-2), 2) := dk_16 254 (dk_at dksX8_boat_1 17 rfl rfl)
theorem dX8_boat_43 : decode cX8_boat 43 = .ok (.ireturn, 1) := dk_172 (dk_at dksX8_boat_1 19 rfl rfl)
theorem dX8_boat_44 : decode cX8_boat 44 = .ok (.aload_n 0, 1) := dk_42 (dk_at dksX8_boat_1 20 rfl rfl)
theorem dX8_boat_45 : decode cX8_boat 45 = .ok (.getfield 99, 3) := dk_180 0 99 (dk_at dksX8_boat_1 21 rfl rfl)
theorem dX8_boat_48 : decode cX8_boat 48 = .ok (.bipush 7, 2) := dk_16 7 (dk_at dksX8_boat_2 0 rfl rfl)
theorem dX8_boat_50 : decode cX8_boat 50 = .ok (.if_icmp .ne 6, 3) := dk_160 0 6 (dk_at dksX8_boat_2 2 rfl rfl)
theorem dX8_boat_53 : decode cX8_boat 53 = .ok (.bipush (-4), 2) := dk_16 252 (dk_at dksX8_boat_2 5 rfl rfl)
theorem dX8_boat_55 : decode cX8_boat 55 = .ok (.ireturn, 1) := dk_172 (dk_at dksX8_boat_2 7 rfl rfl)
theorem dX8_boat_56 : decode cX8_boat 56 = .ok (.aload_n 0, 1) := dk_42 (dk_at dksX8_boat_2 8 rfl rfl)
theorem dX8_boat_57 : decode cX8_boat 57 = .ok (.getfield 7, 3) := dk_180 0 7 (dk_at dksX8_boat_2 9 rfl rfl)
theorem dX8_boat_60 : decode cX8_boat 60 = .ok (.aload_n 0, 1) := dk_42 (dk_at dksX8_boat_2 12 rfl rfl)
theorem dX8_boat_61 : decode cX8_boat 61 = .ok (.getfield 99, 3) := dk_180 0 99 (dk_at dksX8_boat_2 13 rfl rfl)
theorem dX8_boat_64 : decode cX8_boat 64 = .ok (.iload_n 1, 1) := dk_27 (dk_at dksX8_boat_2 16 rfl rfl)
theorem dX8_boat_65 : decode cX8_boat 65 = .ok (.iastore, 1) := dk_79 (dk_at dksX8_boat_2 17 rfl rfl)
theorem dX8_boat_66 : decode cX8_boat 66 = .ok (.aload_n 0, 1) := dk_42 (dk_at dksX8_boat_2 18 rfl rfl)
theorem dX8_boat_67 : decode cX8_boat 67 = .ok (.getfield 16, 3) := dk_180 0 16 (dk_at dksX8_boat_2 19 rfl rfl)
theorem dX8_boat_70 : decode cX8_boat 70 = .ok (.aload_n 0, 1) := dk_42 (dk_at dksX8_boat_2 22 rfl rfl)
theorem dX8_boat_71 : decode cX8_boat 71 = .ok (.getfield 99, 3) := dk_180 0 99 (dk_at dksX8_boat_3 0 rfl rfl)
theorem dX8_boat_74 : decode cX8_boat 74 = .ok (.iload_n 2, 1) := dk_28 (dk_at dksX8_boat_3 3 rfl rfl)
theorem dX8_boat_75 : decode cX8_boat 75 = .ok (.bipush 100, 2) := dk_16 100 (dk_at dksX8_boat_3 4 rfl rfl)
theorem dX8_boat_77 : decode cX8_boat 77 = .ok (.idiv, 1) := dk_108 (dk_at dksX8_boat_3 6 rfl rfl)
theorem dX8_boat_78 : decode cX8_boat 78 = .ok (.iastore, 1) := dk_79 (dk_at dksX8_boat_3 7 rfl rfl)
theorem dX8_boat_79 : decode cX8_boat 79 = .ok (.aload_n 0, 1) := dk_42 (dk_at dksX8_boat_3 8 rfl rfl)
theorem dX8_boat_80 : decode cX8_boat 80 = .ok (.getfield 13, 3) := dk_180 0 13 (dk_at dksX8_boat_3 9 rfl rfl)
theorem dX8_boat_83 : decode cX8_boat 83 = .ok (.aload_n 0, 1) := dk_42 (dk_at dksX8_boat_3 12 rfl rfl)
theorem dX8_boat_84 : decode cX8_boat 84 = .ok (.getfield 99, 3) := dk_180 0 99 (dk_at dksX8_boat_3 13 rfl rfl)
theorem dX8_boat_87 : decode cX8_boat 87 = .ok (.iload_n 2, 1) := dk_28 (dk_at dksX8_boat_3 16 rfl rfl)
theorem dX8_boat_88 : decode cX8_boat 88 = .ok (.bipush 100, 2) := dk_16 100 (dk_at dksX8_boat_3 17 rfl rfl)
theorem dX8_boat_90 : decode cX8_boat 90 = .ok (.irem, 1) := dk_112 (dk_at dksX8_boat_3 19 rfl rfl)
theorem dX8_boat_91 : decode cX8_boat 91 = .ok (.iastore, 1) := dk_79 (dk_at dksX8_boat_3 20 rfl rfl)
theorem dX8_boat_92 : decode cX8_boat 92 = .ok (.aload_n 0, 1) := dk_42 (dk_at dksX8_boat_3 21 rfl rfl)
theorem dX8_boat_93 : decode cX8_boat 93 = .ok (.getfield 22, 3) := dk_180 0 22 (dk_at dksX8_boat_4 0 rfl rfl)
theorem dX8_boat_96 : decode cX8_boat 96 = .ok (.aload_n 0, 1) := dk_42 (dk_at dksX8_boat_4 3 rfl rfl)
theorem dX8_boat_97 : decode cX8_boat 97 = .ok (.getfield 99, 3) := dk_180 0 99 (dk_at dksX8_boat_4 4 rfl rfl)
theorem dX8_boat_100 : decode cX8_boat 100 = .ok (.iload_n 3, 1) := dk_29 (dk_at dksX8_boat_4 7 rfl rfl)
theorem dX8_boat_101 : decode cX8_boat 101 = .ok (.sipush 1000, 3) := dk_17 3 232 (dk_at dksX8_boat_4 8 rfl rfl)
theorem dX8_boat_104 : decode cX8_boat 104 = .ok (.idiv, 1) := dk_108 (dk_at dksX8_boat_4 11 rfl rfl)
theorem dX8_boat_105 : decode cX8_boat 105 = .ok (.iastore, 1) := dk_79 (dk_at dksX8_boat_4 12 rfl rfl)
theorem dX8_boat_106 : decode cX8_boat 106 = .ok (.aload_n 0, 1) := dk_42 (dk_at dksX8_boat_4 13 rfl rfl)
theorem dX8_boat_107 : decode cX8_boat 107 = .ok (.getfield 19, 3) := dk_180 0 19 (dk_at dksX8_boat_4 14 rfl rfl)
theorem dX8_boat_110 : decode cX8_boat 110 = .ok (.aload_n 0, 1) := dk_42 (dk_at dksX8_boat_4 17 rfl rfl)
theorem dX8_boat_111 : decode cX8_boat 111 = .ok (.getfield 99, 3) := dk_180 0 99 (dk_at dksX8_boat_4 18 rfl rfl)
theorem dX8_boat_114 : decode cX8_boat 114 = .ok (.iload_n 3, 1) := dk_29 (dk_at dksX8_boat_4 21 rfl rfl)
theorem dX8_boat_115 : decode cX8_boat 115 = .ok (.sipush 1000, 3) := dk_17 3 232 (dk_at dksX8_boat_5 0 rfl rfl)
theorem dX8_boat_118 : decode cX8_boat 118 = .ok (.irem, 1) := dk_112 (dk_at dksX8_boat_5 3 rfl rfl)
theorem dX8_boat_119 : decode cX8_boat 119 = .ok (.iastore, 1) := dk_79 (dk_at dksX8_boat_5 4 rfl rfl)
theorem dX8_boat_120 : decode cX8_boat 120 = .ok (.aload_n 0, 1) := dk_42 (dk_at dksX8_boat_5 5 rfl rfl)
theorem dX8_boat_121 : decode cX8_boat 121 = .ok (.getfield 25, 3) := dk_180 0 25 (dk_at dksX8_boat_5 6 rfl rfl)
theorem dX8_boat_124 : decode cX8_boat 124 = .ok (.aload_n 0, 1) := dk_42 (dk_at dksX8_boat_5 9 rfl rfl)
theorem dX8_boat_125 : decode cX8_boat 125 = .ok (.getfield 99, 3) := dk_180 0 99 (dk_at dksX8_boat_5 10 rfl rfl)
theorem dX8_boat_128 : decode cX8_boat 128 = .ok (.iconst 0, 1) := dk_3 (dk_at dksX8_boat_5 13 rfl rfl)
theorem dX8_boat_129 : decode cX8_boat 129 = .ok (.iastore, 1) := dk_79 (dk_at dksX8_boat_5 14 rfl rfl)
theorem dX8_boat_130 : decode cX8_boat 130 = .ok (.aload_n 0, 1) := dk_42 (dk_at dksX8_boat_5 15 rfl rfl)
theorem dX8_boat_131 : decode cX8_boat 131 = .ok (.getfield 28, 3) := dk_180 0 28 (dk_at dksX8_boat_5 16 rfl rfl)
theorem dX8_boat_134 : decode cX8_boat 134 = .ok (.aload_n 0, 1) := dk_42 (dk_at dksX8_boat_5 19 rfl rfl)
theorem dX8_boat_135 : decode cX8_boat 135 = .ok (.getfield 99, 3) := dk_180 0 99 (dk_at dksX8_boat_5 20 rfl rfl)
theorem dX8_boat_138 : decode cX8_boat 138 = .ok (.iconst (-1), 1) := dk_2 (dk_at dksX8_boat_5 23 rfl rfl)
theorem dX8_boat_139 : decode cX8_boat 139 = .ok (.iastore, 1) := dk_79 (dk_at dksX8_boat_6 0 rfl rfl)
theorem dX8_boat_140 : decode cX8_boat 140 = .ok (.aload_n 0, 1) := dk_42 (dk_at dksX8_boat_6 1 rfl rfl)
theorem dX8_boat_141 : decode cX8_boat 141 = .ok (.dup, 1) := dk_89 (dk_at dksX8_boat_6 2 rfl rfl)
theorem dX8_boat_142 : decode cX8_boat 142 = .ok (.getfield 99, 3) := dk_180 0 99 (dk_at dksX8_boat_6 3 rfl rfl)
theorem dX8_boat_145 : decode cX8_boat 145 = .ok (.dup_x1, 1) := dk_90 (dk_at dksX8_boat_6 6 rfl rfl)
theorem dX8_boat_146 : decode cX8_boat 146 = .ok (.iconst 1, 1) := dk_4 (dk_at dksX8_boat_6 7 rfl rfl)
theorem dX8_boat_147 : decode cX8_boat 147 = .ok (.iadd, 1) := dk_96 (dk_at dksX8_boat_6 8 rfl rfl)
theorem dX8_boat_148 : decode cX8_boat 148 = .ok (.putfield 99, 3) := dk_181 0 99 (dk_at dksX8_boat_6 9 rfl rfl)
theorem dX8_boat_151 : decode cX8_boat 151 = .ok (.ireturn, 1) := dk_172 (dk_at dksX8_boat_6 12 rfl rfl)
abbrev cX8_set : ByteArray := prog_16_method_6_code
def yX8_set : MethodName := ⟨RX8, "set", "(III)I"⟩
def dkwX8_set_12 : List UInt8 := [54, 6, 42, 29, 181, 0, 77, 21, 6, 172, 42, 180, 0, 119, 54, 6, 42, 29, 181, 0, 119, 21, 6, 172]
abbrev dktX8_set_12 : List UInt8 := dkwX8_set_12 ++ []
def dkwX8_set_11 : List UInt8 := [181, 0, 116, 21, 6, 172, 42, 180, 0, 74, 54, 6, 42, 29, 181, 0, 74, 21, 6, 172, 42, 180, 0, 77]
abbrev dktX8_set_11 : List UInt8 := dkwX8_set_11 ++ dktX8_set_12
def dkwX8_set_10 : List UInt8 := [42, 180, 0, 70, 54, 6, 42, 29, 181, 0, 70, 21, 6, 172, 42, 180, 0, 116, 54, 6, 42, 29]
abbrev dktX8_set_10 : List UInt8 := dkwX8_set_10 ++ dktX8_set_11
def dkwX8_set_9 : List UInt8 := [28, 29, 79, 21, 6, 172, 42, 180, 0, 13, 28, 46, 54, 6, 42, 180, 0, 13, 28, 29, 79, 21, 6, 172]
abbrev dktX8_set_9 : List UInt8 := dkwX8_set_9 ++ dktX8_set_10
def dkwX8_set_8 : List UInt8 := [54, 6, 42, 180, 0, 19, 28, 29, 79, 21, 6, 172, 42, 180, 0, 22, 28, 46, 54, 6, 42, 180, 0, 22]
abbrev dktX8_set_8 : List UInt8 := dkwX8_set_8 ++ dktX8_set_9
def dkwX8_set_7 : List UInt8 := [42, 180, 0, 16, 28, 46, 54, 6, 42, 180, 0, 16, 28, 29, 79, 21, 6, 172, 42, 180, 0, 19, 28, 46]
abbrev dktX8_set_7 : List UInt8 := dkwX8_set_7 ++ dktX8_set_8
def dkwX8_set_6 : List UInt8 := [170, 0, 0, 0, 0, 0, 0, 176, 0, 0, 0, 0, 0, 0, 0, 7, 0, 0, 0, 48, 0, 0, 0, 66, 0, 0, 0, 84, 0, 0, 0, 102, 0, 0, 0, 120, 0, 0, 0, 134, 0, 0, 0, 148, 0, 0, 0, 162]
abbrev dktX8_set_6 : List UInt8 := dkwX8_set_6 ++ dktX8_set_7
def dkwX8_set_5 : List UInt8 := [21, 4, 21, 5, 184, 0, 102, 154, 0, 6, 16, 254, 172, 27]
abbrev dktX8_set_5 : List UInt8 := dkwX8_set_5 ++ dktX8_set_6
def dkwX8_set_4 : List UInt8 := [3, 16, 8, 184, 0, 102, 153, 0, 27, 27, 7, 162, 0, 11, 42, 28, 182, 0, 112, 153, 0, 14, 29]
abbrev dktX8_set_4 : List UInt8 := dkwX8_set_4 ++ dktX8_set_5
def dkwX8_set_3 : List UInt8 := [160, 0, 8, 16, 6, 167, 0, 16, 27, 16, 8, 160, 0, 8, 16, 20, 167, 0, 5, 16, 9, 54, 5, 27]
abbrev dktX8_set_3 : List UInt8 := dkwX8_set_3 ++ dktX8_set_4
def dkwX8_set_2 : List UInt8 := [160, 0, 9, 17, 3, 231, 167, 0, 38, 27, 5, 160, 0, 9, 17, 0, 240, 167, 0, 27, 27, 16, 6]
abbrev dktX8_set_2 : List UInt8 := dkwX8_set_2 ++ dktX8_set_3
def dkwX8_set_1 : List UInt8 := [167, 0, 4, 3, 54, 4, 27, 153, 0, 8, 27, 7, 160, 0, 8, 16, 47, 167, 0, 49, 27, 4]
abbrev dktX8_set_1 : List UInt8 := dkwX8_set_1 ++ dktX8_set_2
def dkwX8_set_0 : List UInt8 := [27, 5, 160, 0, 7, 8, 167, 0, 20, 27, 16, 6, 159, 0, 9, 27, 16, 7, 160, 0, 7, 4]
abbrev dktX8_set_0 : List UInt8 := dkwX8_set_0 ++ dktX8_set_1
theorem dksX8_set_0 : cX8_set.data.toList.drop 0 = dktX8_set_0 := by decide +kernel
theorem dksX8_set_1 : cX8_set.data.toList.drop 22 = dktX8_set_1 := dk_seg dksX8_set_0 22 rfl rfl
theorem dksX8_set_2 : cX8_set.data.toList.drop 44 = dktX8_set_2 := dk_seg dksX8_set_1 22 rfl rfl
theorem dksX8_set_3 : cX8_set.data.toList.drop 67 = dktX8_set_3 := dk_seg dksX8_set_2 23 rfl rfl
theorem dksX8_set_4 : cX8_set.data.toList.drop 91 = dktX8_set_4 := dk_seg dksX8_set_3 24 rfl rfl
theorem dksX8_set_5 : cX8_set.data.toList.drop 114 = dktX8_set_5 := dk_seg dksX8_set_4 23 rfl rfl
theorem dksX8_set_6 : cX8_set.data.toList.drop 128 = dktX8_set_6 := dk_seg dksX8_set_5 14 rfl rfl
theorem dksX8_set_7 : cX8_set.data.toList.drop 176 = dktX8_set_7 := dk_seg dksX8_set_6 48 rfl rfl
theorem dksX8_set_8 : cX8_set.data.toList.drop 200 = dktX8_set_8 := dk_seg dksX8_set_7 24 rfl rfl
theorem dksX8_set_9 : cX8_set.data.toList.drop 224 = dktX8_set_9 := dk_seg dksX8_set_8 24 rfl rfl
theorem dksX8_set_10 : cX8_set.data.toList.drop 248 = dktX8_set_10 := dk_seg dksX8_set_9 24 rfl rfl
theorem dksX8_set_11 : cX8_set.data.toList.drop 270 = dktX8_set_11 := dk_seg dksX8_set_10 22 rfl rfl
theorem dksX8_set_12 : cX8_set.data.toList.drop 294 = dktX8_set_12 := dk_seg dksX8_set_11 24 rfl rfl
theorem dX8_set_0 : decode cX8_set 0 = .ok (.iload_n 1, 1) := dk_27 (dk_at dksX8_set_0 0 rfl rfl)
theorem dX8_set_1 : decode cX8_set 1 = .ok (.iconst 2, 1) := dk_5 (dk_at dksX8_set_0 1 rfl rfl)
theorem dX8_set_2 : decode cX8_set 2 = .ok (.if_icmp .ne 7, 3) := dk_160 0 7 (dk_at dksX8_set_0 2 rfl rfl)
theorem dX8_set_5 : decode cX8_set 5 = .ok (.iconst 5, 1) := dk_8 (dk_at dksX8_set_0 5 rfl rfl)
theorem dX8_set_6 : decode cX8_set 6 = .ok (.goto 20, 3) := dk_167 0 20 (dk_at dksX8_set_0 6 rfl rfl)
theorem dX8_set_9 : decode cX8_set 9 = .ok (.iload_n 1, 1) := dk_27 (dk_at dksX8_set_0 9 rfl rfl)
theorem dX8_set_10 : decode cX8_set 10 = .ok (.bipush 6, 2) := dk_16 6 (dk_at dksX8_set_0 10 rfl rfl)
theorem dX8_set_12 : decode cX8_set 12 = .ok (.if_icmp .eq 9, 3) := dk_159 0 9 (dk_at dksX8_set_0 12 rfl rfl)
theorem dX8_set_15 : decode cX8_set 15 = .ok (.iload_n 1, 1) := dk_27 (dk_at dksX8_set_0 15 rfl rfl)
theorem dX8_set_16 : decode cX8_set 16 = .ok (.bipush 7, 2) := dk_16 7 (dk_at dksX8_set_0 16 rfl rfl)
theorem dX8_set_18 : decode cX8_set 18 = .ok (.if_icmp .ne 7, 3) := dk_160 0 7 (dk_at dksX8_set_0 18 rfl rfl)
theorem dX8_set_21 : decode cX8_set 21 = .ok (.iconst 1, 1) := dk_4 (dk_at dksX8_set_0 21 rfl rfl)
theorem dX8_set_22 : decode cX8_set 22 = .ok (.goto 4, 3) := dk_167 0 4 (dk_at dksX8_set_1 0 rfl rfl)
theorem dX8_set_25 : decode cX8_set 25 = .ok (.iconst 0, 1) := dk_3 (dk_at dksX8_set_1 3 rfl rfl)
theorem dX8_set_26 : decode cX8_set 26 = .ok (.istore 4, 2) := dk_54 4 (dk_at dksX8_set_1 4 rfl rfl)
theorem dX8_set_28 : decode cX8_set 28 = .ok (.iload_n 1, 1) := dk_27 (dk_at dksX8_set_1 6 rfl rfl)
theorem dX8_set_29 : decode cX8_set 29 = .ok (.ifCond .eq 8, 3) := dk_153 0 8 (dk_at dksX8_set_1 7 rfl rfl)
theorem dX8_set_32 : decode cX8_set 32 = .ok (.iload_n 1, 1) := dk_27 (dk_at dksX8_set_1 10 rfl rfl)
theorem dX8_set_33 : decode cX8_set 33 = .ok (.iconst 4, 1) := dk_7 (dk_at dksX8_set_1 11 rfl rfl)
theorem dX8_set_34 : decode cX8_set 34 = .ok (.if_icmp .ne 8, 3) := dk_160 0 8 (dk_at dksX8_set_1 12 rfl rfl)
theorem dX8_set_37 : decode cX8_set 37 = .ok (.bipush 47, 2) := dk_16 47 (dk_at dksX8_set_1 15 rfl rfl)
theorem dX8_set_39 : decode cX8_set 39 = .ok (.goto 49, 3) := dk_167 0 49 (dk_at dksX8_set_1 17 rfl rfl)
theorem dX8_set_42 : decode cX8_set 42 = .ok (.iload_n 1, 1) := dk_27 (dk_at dksX8_set_1 20 rfl rfl)
theorem dX8_set_43 : decode cX8_set 43 = .ok (.iconst 1, 1) := dk_4 (dk_at dksX8_set_1 21 rfl rfl)
theorem dX8_set_44 : decode cX8_set 44 = .ok (.if_icmp .ne 9, 3) := dk_160 0 9 (dk_at dksX8_set_2 0 rfl rfl)
theorem dX8_set_47 : decode cX8_set 47 = .ok (.sipush 999, 3) := dk_17 3 231 (dk_at dksX8_set_2 3 rfl rfl)
theorem dX8_set_50 : decode cX8_set 50 = .ok (.goto 38, 3) := dk_167 0 38 (dk_at dksX8_set_2 6 rfl rfl)
theorem dX8_set_53 : decode cX8_set 53 = .ok (.iload_n 1, 1) := dk_27 (dk_at dksX8_set_2 9 rfl rfl)
theorem dX8_set_54 : decode cX8_set 54 = .ok (.iconst 2, 1) := dk_5 (dk_at dksX8_set_2 10 rfl rfl)
theorem dX8_set_55 : decode cX8_set 55 = .ok (.if_icmp .ne 9, 3) := dk_160 0 9 (dk_at dksX8_set_2 11 rfl rfl)
theorem dX8_set_58 : decode cX8_set 58 = .ok (.sipush 240, 3) := dk_17 0 240 (dk_at dksX8_set_2 14 rfl rfl)
theorem dX8_set_61 : decode cX8_set 61 = .ok (.goto 27, 3) := dk_167 0 27 (dk_at dksX8_set_2 17 rfl rfl)
theorem dX8_set_64 : decode cX8_set 64 = .ok (.iload_n 1, 1) := dk_27 (dk_at dksX8_set_2 20 rfl rfl)
theorem dX8_set_65 : decode cX8_set 65 = .ok (.bipush 6, 2) := dk_16 6 (dk_at dksX8_set_2 21 rfl rfl)
theorem dX8_set_67 : decode cX8_set 67 = .ok (.if_icmp .ne 8, 3) := dk_160 0 8 (dk_at dksX8_set_3 0 rfl rfl)
theorem dX8_set_70 : decode cX8_set 70 = .ok (.bipush 6, 2) := dk_16 6 (dk_at dksX8_set_3 3 rfl rfl)
theorem dX8_set_72 : decode cX8_set 72 = .ok (.goto 16, 3) := dk_167 0 16 (dk_at dksX8_set_3 5 rfl rfl)
theorem dX8_set_75 : decode cX8_set 75 = .ok (.iload_n 1, 1) := dk_27 (dk_at dksX8_set_3 8 rfl rfl)
theorem dX8_set_76 : decode cX8_set 76 = .ok (.bipush 8, 2) := dk_16 8 (dk_at dksX8_set_3 9 rfl rfl)
theorem dX8_set_78 : decode cX8_set 78 = .ok (.if_icmp .ne 8, 3) := dk_160 0 8 (dk_at dksX8_set_3 11 rfl rfl)
theorem dX8_set_81 : decode cX8_set 81 = .ok (.bipush 20, 2) := dk_16 20 (dk_at dksX8_set_3 14 rfl rfl)
theorem dX8_set_83 : decode cX8_set 83 = .ok (.goto 5, 3) := dk_167 0 5 (dk_at dksX8_set_3 16 rfl rfl)
theorem dX8_set_86 : decode cX8_set 86 = .ok (.bipush 9, 2) := dk_16 9 (dk_at dksX8_set_3 19 rfl rfl)
theorem dX8_set_88 : decode cX8_set 88 = .ok (.istore 5, 2) := dk_54 5 (dk_at dksX8_set_3 21 rfl rfl)
theorem dX8_set_90 : decode cX8_set 90 = .ok (.iload_n 1, 1) := dk_27 (dk_at dksX8_set_3 23 rfl rfl)
theorem dX8_set_91 : decode cX8_set 91 = .ok (.iconst 0, 1) := dk_3 (dk_at dksX8_set_4 0 rfl rfl)
theorem dX8_set_92 : decode cX8_set 92 = .ok (.bipush 8, 2) := dk_16 8 (dk_at dksX8_set_4 1 rfl rfl)
theorem dX8_set_94 : decode cX8_set 94 = .ok (.invokestatic 102, 3) := dk_184 0 102 (dk_at dksX8_set_4 3 rfl rfl)
theorem dX8_set_97 : decode cX8_set 97 = .ok (.ifCond .eq 27, 3) := dk_153 0 27 (dk_at dksX8_set_4 6 rfl rfl)
theorem dX8_set_100 : decode cX8_set 100 = .ok (.iload_n 1, 1) := dk_27 (dk_at dksX8_set_4 9 rfl rfl)
theorem dX8_set_101 : decode cX8_set 101 = .ok (.iconst 4, 1) := dk_7 (dk_at dksX8_set_4 10 rfl rfl)
theorem dX8_set_102 : decode cX8_set 102 = .ok (.if_icmp .ge 11, 3) := dk_162 0 11 (dk_at dksX8_set_4 11 rfl rfl)
theorem dX8_set_105 : decode cX8_set 105 = .ok (.aload_n 0, 1) := dk_42 (dk_at dksX8_set_4 14 rfl rfl)
theorem dX8_set_106 : decode cX8_set 106 = .ok (.iload_n 2, 1) := dk_28 (dk_at dksX8_set_4 15 rfl rfl)
theorem dX8_set_107 : decode cX8_set 107 = .ok (.invokevirtual 112, 3) := dk_182 0 112 (dk_at dksX8_set_4 16 rfl rfl)
theorem dX8_set_110 : decode cX8_set 110 = .ok (.ifCond .eq 14, 3) := dk_153 0 14 (dk_at dksX8_set_4 19 rfl rfl)
theorem dX8_set_113 : decode cX8_set 113 = .ok (.iload_n 3, 1) := dk_29 (dk_at dksX8_set_4 22 rfl rfl)
theorem dX8_set_114 : decode cX8_set 114 = .ok (.iload 4, 2) := dk_21 4 (dk_at dksX8_set_5 0 rfl rfl)
theorem dX8_set_116 : decode cX8_set 116 = .ok (.iload 5, 2) := dk_21 5 (dk_at dksX8_set_5 2 rfl rfl)
theorem dX8_set_118 : decode cX8_set 118 = .ok (.invokestatic 102, 3) := dk_184 0 102 (dk_at dksX8_set_5 4 rfl rfl)
theorem dX8_set_121 : decode cX8_set 121 = .ok (.ifCond .ne 6, 3) := dk_154 0 6 (dk_at dksX8_set_5 7 rfl rfl)
theorem dX8_set_124 : decode cX8_set 124 = .ok (.bipush (-2), 2) := dk_16 254 (dk_at dksX8_set_5 10 rfl rfl)
theorem dX8_set_126 : decode cX8_set 126 = .ok (.ireturn, 1) := dk_172 (dk_at dksX8_set_5 12 rfl rfl)
theorem dX8_set_127 : decode cX8_set 127 = .ok (.iload_n 1, 1) := dk_27 (dk_at dksX8_set_5 13 rfl rfl)
theorem dX8_set_128 : decode cX8_set 128 = .ok (.tableswitch 176 0 7 #[48, 66, 84, 102, 120, 134, 148, 162], 48) := by decide +kernel
theorem dX8_set_176 : decode cX8_set 176 = .ok (.aload_n 0, 1) := dk_42 (dk_at dksX8_set_7 0 rfl rfl)
theorem dX8_set_177 : decode cX8_set 177 = .ok (.getfield 16, 3) := dk_180 0 16 (dk_at dksX8_set_7 1 rfl rfl)
theorem dX8_set_180 : decode cX8_set 180 = .ok (.iload_n 2, 1) := dk_28 (dk_at dksX8_set_7 4 rfl rfl)
theorem dX8_set_181 : decode cX8_set 181 = .ok (.iaload, 1) := dk_46 (dk_at dksX8_set_7 5 rfl rfl)
theorem dX8_set_182 : decode cX8_set 182 = .ok (.istore 6, 2) := dk_54 6 (dk_at dksX8_set_7 6 rfl rfl)
theorem dX8_set_184 : decode cX8_set 184 = .ok (.aload_n 0, 1) := dk_42 (dk_at dksX8_set_7 8 rfl rfl)
theorem dX8_set_185 : decode cX8_set 185 = .ok (.getfield 16, 3) := dk_180 0 16 (dk_at dksX8_set_7 9 rfl rfl)
theorem dX8_set_188 : decode cX8_set 188 = .ok (.iload_n 2, 1) := dk_28 (dk_at dksX8_set_7 12 rfl rfl)
theorem dX8_set_189 : decode cX8_set 189 = .ok (.iload_n 3, 1) := dk_29 (dk_at dksX8_set_7 13 rfl rfl)
theorem dX8_set_190 : decode cX8_set 190 = .ok (.iastore, 1) := dk_79 (dk_at dksX8_set_7 14 rfl rfl)
theorem dX8_set_191 : decode cX8_set 191 = .ok (.iload 6, 2) := dk_21 6 (dk_at dksX8_set_7 15 rfl rfl)
theorem dX8_set_193 : decode cX8_set 193 = .ok (.ireturn, 1) := dk_172 (dk_at dksX8_set_7 17 rfl rfl)
theorem dX8_set_194 : decode cX8_set 194 = .ok (.aload_n 0, 1) := dk_42 (dk_at dksX8_set_7 18 rfl rfl)
theorem dX8_set_195 : decode cX8_set 195 = .ok (.getfield 19, 3) := dk_180 0 19 (dk_at dksX8_set_7 19 rfl rfl)
theorem dX8_set_198 : decode cX8_set 198 = .ok (.iload_n 2, 1) := dk_28 (dk_at dksX8_set_7 22 rfl rfl)
theorem dX8_set_199 : decode cX8_set 199 = .ok (.iaload, 1) := dk_46 (dk_at dksX8_set_7 23 rfl rfl)
theorem dX8_set_200 : decode cX8_set 200 = .ok (.istore 6, 2) := dk_54 6 (dk_at dksX8_set_8 0 rfl rfl)
theorem dX8_set_202 : decode cX8_set 202 = .ok (.aload_n 0, 1) := dk_42 (dk_at dksX8_set_8 2 rfl rfl)
theorem dX8_set_203 : decode cX8_set 203 = .ok (.getfield 19, 3) := dk_180 0 19 (dk_at dksX8_set_8 3 rfl rfl)
theorem dX8_set_206 : decode cX8_set 206 = .ok (.iload_n 2, 1) := dk_28 (dk_at dksX8_set_8 6 rfl rfl)
theorem dX8_set_207 : decode cX8_set 207 = .ok (.iload_n 3, 1) := dk_29 (dk_at dksX8_set_8 7 rfl rfl)
theorem dX8_set_208 : decode cX8_set 208 = .ok (.iastore, 1) := dk_79 (dk_at dksX8_set_8 8 rfl rfl)
theorem dX8_set_209 : decode cX8_set 209 = .ok (.iload 6, 2) := dk_21 6 (dk_at dksX8_set_8 9 rfl rfl)
theorem dX8_set_211 : decode cX8_set 211 = .ok (.ireturn, 1) := dk_172 (dk_at dksX8_set_8 11 rfl rfl)
theorem dX8_set_212 : decode cX8_set 212 = .ok (.aload_n 0, 1) := dk_42 (dk_at dksX8_set_8 12 rfl rfl)
theorem dX8_set_213 : decode cX8_set 213 = .ok (.getfield 22, 3) := dk_180 0 22 (dk_at dksX8_set_8 13 rfl rfl)
theorem dX8_set_216 : decode cX8_set 216 = .ok (.iload_n 2, 1) := dk_28 (dk_at dksX8_set_8 16 rfl rfl)
theorem dX8_set_217 : decode cX8_set 217 = .ok (.iaload, 1) := dk_46 (dk_at dksX8_set_8 17 rfl rfl)
theorem dX8_set_218 : decode cX8_set 218 = .ok (.istore 6, 2) := dk_54 6 (dk_at dksX8_set_8 18 rfl rfl)
theorem dX8_set_220 : decode cX8_set 220 = .ok (.aload_n 0, 1) := dk_42 (dk_at dksX8_set_8 20 rfl rfl)
theorem dX8_set_221 : decode cX8_set 221 = .ok (.getfield 22, 3) := dk_180 0 22 (dk_at dksX8_set_8 21 rfl rfl)
theorem dX8_set_224 : decode cX8_set 224 = .ok (.iload_n 2, 1) := dk_28 (dk_at dksX8_set_9 0 rfl rfl)
theorem dX8_set_225 : decode cX8_set 225 = .ok (.iload_n 3, 1) := dk_29 (dk_at dksX8_set_9 1 rfl rfl)
theorem dX8_set_226 : decode cX8_set 226 = .ok (.iastore, 1) := dk_79 (dk_at dksX8_set_9 2 rfl rfl)
theorem dX8_set_227 : decode cX8_set 227 = .ok (.iload 6, 2) := dk_21 6 (dk_at dksX8_set_9 3 rfl rfl)
theorem dX8_set_229 : decode cX8_set 229 = .ok (.ireturn, 1) := dk_172 (dk_at dksX8_set_9 5 rfl rfl)
theorem dX8_set_230 : decode cX8_set 230 = .ok (.aload_n 0, 1) := dk_42 (dk_at dksX8_set_9 6 rfl rfl)
theorem dX8_set_231 : decode cX8_set 231 = .ok (.getfield 13, 3) := dk_180 0 13 (dk_at dksX8_set_9 7 rfl rfl)
theorem dX8_set_234 : decode cX8_set 234 = .ok (.iload_n 2, 1) := dk_28 (dk_at dksX8_set_9 10 rfl rfl)
theorem dX8_set_235 : decode cX8_set 235 = .ok (.iaload, 1) := dk_46 (dk_at dksX8_set_9 11 rfl rfl)
theorem dX8_set_236 : decode cX8_set 236 = .ok (.istore 6, 2) := dk_54 6 (dk_at dksX8_set_9 12 rfl rfl)
theorem dX8_set_238 : decode cX8_set 238 = .ok (.aload_n 0, 1) := dk_42 (dk_at dksX8_set_9 14 rfl rfl)
theorem dX8_set_239 : decode cX8_set 239 = .ok (.getfield 13, 3) := dk_180 0 13 (dk_at dksX8_set_9 15 rfl rfl)
theorem dX8_set_242 : decode cX8_set 242 = .ok (.iload_n 2, 1) := dk_28 (dk_at dksX8_set_9 18 rfl rfl)
theorem dX8_set_243 : decode cX8_set 243 = .ok (.iload_n 3, 1) := dk_29 (dk_at dksX8_set_9 19 rfl rfl)
theorem dX8_set_244 : decode cX8_set 244 = .ok (.iastore, 1) := dk_79 (dk_at dksX8_set_9 20 rfl rfl)
theorem dX8_set_245 : decode cX8_set 245 = .ok (.iload 6, 2) := dk_21 6 (dk_at dksX8_set_9 21 rfl rfl)
theorem dX8_set_247 : decode cX8_set 247 = .ok (.ireturn, 1) := dk_172 (dk_at dksX8_set_9 23 rfl rfl)
theorem dX8_set_248 : decode cX8_set 248 = .ok (.aload_n 0, 1) := dk_42 (dk_at dksX8_set_10 0 rfl rfl)
theorem dX8_set_249 : decode cX8_set 249 = .ok (.getfield 70, 3) := dk_180 0 70 (dk_at dksX8_set_10 1 rfl rfl)
theorem dX8_set_252 : decode cX8_set 252 = .ok (.istore 6, 2) := dk_54 6 (dk_at dksX8_set_10 4 rfl rfl)
theorem dX8_set_254 : decode cX8_set 254 = .ok (.aload_n 0, 1) := dk_42 (dk_at dksX8_set_10 6 rfl rfl)
theorem dX8_set_255 : decode cX8_set 255 = .ok (.iload_n 3, 1) := dk_29 (dk_at dksX8_set_10 7 rfl rfl)
theorem dX8_set_256 : decode cX8_set 256 = .ok (.putfield 70, 3) := dk_181 0 70 (dk_at dksX8_set_10 8 rfl rfl)
theorem dX8_set_259 : decode cX8_set 259 = .ok (.iload 6, 2) := dk_21 6 (dk_at dksX8_set_10 11 rfl rfl)
theorem dX8_set_261 : decode cX8_set 261 = .ok (.ireturn, 1) := dk_172 (dk_at dksX8_set_10 13 rfl rfl)
theorem dX8_set_262 : decode cX8_set 262 = .ok (.aload_n 0, 1) := dk_42 (dk_at dksX8_set_10 14 rfl rfl)
theorem dX8_set_263 : decode cX8_set 263 = .ok (.getfield 116, 3) := dk_180 0 116 (dk_at dksX8_set_10 15 rfl rfl)
theorem dX8_set_266 : decode cX8_set 266 = .ok (.istore 6, 2) := dk_54 6 (dk_at dksX8_set_10 18 rfl rfl)
theorem dX8_set_268 : decode cX8_set 268 = .ok (.aload_n 0, 1) := dk_42 (dk_at dksX8_set_10 20 rfl rfl)
theorem dX8_set_269 : decode cX8_set 269 = .ok (.iload_n 3, 1) := dk_29 (dk_at dksX8_set_10 21 rfl rfl)
theorem dX8_set_270 : decode cX8_set 270 = .ok (.putfield 116, 3) := dk_181 0 116 (dk_at dksX8_set_11 0 rfl rfl)
theorem dX8_set_273 : decode cX8_set 273 = .ok (.iload 6, 2) := dk_21 6 (dk_at dksX8_set_11 3 rfl rfl)
theorem dX8_set_275 : decode cX8_set 275 = .ok (.ireturn, 1) := dk_172 (dk_at dksX8_set_11 5 rfl rfl)
theorem dX8_set_276 : decode cX8_set 276 = .ok (.aload_n 0, 1) := dk_42 (dk_at dksX8_set_11 6 rfl rfl)
theorem dX8_set_277 : decode cX8_set 277 = .ok (.getfield 74, 3) := dk_180 0 74 (dk_at dksX8_set_11 7 rfl rfl)
theorem dX8_set_280 : decode cX8_set 280 = .ok (.istore 6, 2) := dk_54 6 (dk_at dksX8_set_11 10 rfl rfl)
theorem dX8_set_282 : decode cX8_set 282 = .ok (.aload_n 0, 1) := dk_42 (dk_at dksX8_set_11 12 rfl rfl)
theorem dX8_set_283 : decode cX8_set 283 = .ok (.iload_n 3, 1) := dk_29 (dk_at dksX8_set_11 13 rfl rfl)
theorem dX8_set_284 : decode cX8_set 284 = .ok (.putfield 74, 3) := dk_181 0 74 (dk_at dksX8_set_11 14 rfl rfl)
theorem dX8_set_287 : decode cX8_set 287 = .ok (.iload 6, 2) := dk_21 6 (dk_at dksX8_set_11 17 rfl rfl)
theorem dX8_set_289 : decode cX8_set 289 = .ok (.ireturn, 1) := dk_172 (dk_at dksX8_set_11 19 rfl rfl)
theorem dX8_set_290 : decode cX8_set 290 = .ok (.aload_n 0, 1) := dk_42 (dk_at dksX8_set_11 20 rfl rfl)
theorem dX8_set_291 : decode cX8_set 291 = .ok (.getfield 77, 3) := dk_180 0 77 (dk_at dksX8_set_11 21 rfl rfl)
theorem dX8_set_294 : decode cX8_set 294 = .ok (.istore 6, 2) := dk_54 6 (dk_at dksX8_set_12 0 rfl rfl)
theorem dX8_set_296 : decode cX8_set 296 = .ok (.aload_n 0, 1) := dk_42 (dk_at dksX8_set_12 2 rfl rfl)
theorem dX8_set_297 : decode cX8_set 297 = .ok (.iload_n 3, 1) := dk_29 (dk_at dksX8_set_12 3 rfl rfl)
theorem dX8_set_298 : decode cX8_set 298 = .ok (.putfield 77, 3) := dk_181 0 77 (dk_at dksX8_set_12 4 rfl rfl)
theorem dX8_set_301 : decode cX8_set 301 = .ok (.iload 6, 2) := dk_21 6 (dk_at dksX8_set_12 7 rfl rfl)
theorem dX8_set_303 : decode cX8_set 303 = .ok (.ireturn, 1) := dk_172 (dk_at dksX8_set_12 9 rfl rfl)
theorem dX8_set_304 : decode cX8_set 304 = .ok (.aload_n 0, 1) := dk_42 (dk_at dksX8_set_12 10 rfl rfl)
theorem dX8_set_305 : decode cX8_set 305 = .ok (.getfield 119, 3) := dk_180 0 119 (dk_at dksX8_set_12 11 rfl rfl)
theorem dX8_set_308 : decode cX8_set 308 = .ok (.istore 6, 2) := dk_54 6 (dk_at dksX8_set_12 14 rfl rfl)
theorem dX8_set_310 : decode cX8_set 310 = .ok (.aload_n 0, 1) := dk_42 (dk_at dksX8_set_12 16 rfl rfl)
theorem dX8_set_311 : decode cX8_set 311 = .ok (.iload_n 3, 1) := dk_29 (dk_at dksX8_set_12 17 rfl rfl)
theorem dX8_set_312 : decode cX8_set 312 = .ok (.putfield 119, 3) := dk_181 0 119 (dk_at dksX8_set_12 18 rfl rfl)
theorem dX8_set_315 : decode cX8_set 315 = .ok (.iload 6, 2) := dk_21 6 (dk_at dksX8_set_12 21 rfl rfl)
theorem dX8_set_317 : decode cX8_set 317 = .ok (.ireturn, 1) := dk_172 (dk_at dksX8_set_12 23 rfl rfl)
abbrev cX8_isBoat : ByteArray := prog_16_method_3_code
def yX8_isBoat : MethodName := ⟨RX8, "isBoat", "(I)Z"⟩
def dkwX8_isBoat_0 : List UInt8 := [27, 3, 42, 180, 0, 99, 4, 100, 184, 0, 102, 172]
abbrev dktX8_isBoat_0 : List UInt8 := dkwX8_isBoat_0 ++ []
theorem dksX8_isBoat_0 : cX8_isBoat.data.toList.drop 0 = dktX8_isBoat_0 := by decide +kernel
theorem dX8_isBoat_0 : decode cX8_isBoat 0 = .ok (.iload_n 1, 1) := dk_27 (dk_at dksX8_isBoat_0 0 rfl rfl)
theorem dX8_isBoat_1 : decode cX8_isBoat 1 = .ok (.iconst 0, 1) := dk_3 (dk_at dksX8_isBoat_0 1 rfl rfl)
theorem dX8_isBoat_2 : decode cX8_isBoat 2 = .ok (.aload_n 0, 1) := dk_42 (dk_at dksX8_isBoat_0 2 rfl rfl)
theorem dX8_isBoat_3 : decode cX8_isBoat 3 = .ok (.getfield 99, 3) := dk_180 0 99 (dk_at dksX8_isBoat_0 3 rfl rfl)
theorem dX8_isBoat_6 : decode cX8_isBoat 6 = .ok (.iconst 1, 1) := dk_4 (dk_at dksX8_isBoat_0 6 rfl rfl)
theorem dX8_isBoat_7 : decode cX8_isBoat 7 = .ok (.isub, 1) := dk_100 (dk_at dksX8_isBoat_0 7 rfl rfl)
theorem dX8_isBoat_8 : decode cX8_isBoat 8 = .ok (.invokestatic 102, 3) := dk_184 0 102 (dk_at dksX8_isBoat_0 8 rfl rfl)
theorem dX8_isBoat_11 : decode cX8_isBoat 11 = .ok (.ireturn, 1) := dk_172 (dk_at dksX8_isBoat_0 11 rfl rfl)
abbrev cX8_told : ByteArray := prog_16_method_14_code
def yX8_told : MethodName := ⟨RX8, "told", "(II)I"⟩
def dkwX8_told_5 : List UInt8 := [167, 0, 4, 3, 172, 42, 27, 42, 180, 0, 142, 182, 0, 153, 172]
abbrev dktX8_told_5 : List UInt8 := dkwX8_told_5 ++ []
def dkwX8_told_4 : List UInt8 := [27, 46, 172, 42, 27, 182, 0, 148, 172, 42, 27, 182, 0, 139, 172, 42, 27, 182, 0, 151, 153, 0, 7, 4]
abbrev dktX8_told_4 : List UInt8 := dkwX8_told_4 ++ dktX8_told_5
def dkwX8_told_3 : List UInt8 := [180, 0, 13, 27, 46, 172, 42, 180, 0, 7, 27, 46, 172, 42, 180, 0, 25, 27, 46, 172, 42, 180, 0, 28]
abbrev dktX8_told_3 : List UInt8 := dkwX8_told_3 ++ dktX8_told_4
def dkwX8_told_2 : List UInt8 := [42, 180, 0, 16, 27, 46, 172, 42, 180, 0, 19, 27, 46, 172, 42, 180, 0, 22, 27, 46, 172, 42]
abbrev dktX8_told_2 : List UInt8 := dkwX8_told_2 ++ dktX8_told_3
def dkwX8_told_1 : List UInt8 := [170, 0, 0, 0, 0, 129, 0, 0, 0, 0, 0, 0, 0, 9, 0, 0, 0, 54, 0, 0, 0, 61, 0, 0, 0, 68, 0, 0, 0, 75, 0, 0, 0, 82, 0, 0, 0, 89, 0, 0, 0, 96, 0, 0, 0, 103, 0, 0, 0, 109, 0, 0, 0, 115]
abbrev dktX8_told_1 : List UInt8 := dkwX8_told_1 ++ dktX8_told_2
def dkwX8_told_0 : List UInt8 := [42, 27, 182, 0, 112, 153, 0, 13, 28, 3, 16, 10, 184, 0, 102, 154, 0, 6, 16, 254, 172, 28]
abbrev dktX8_told_0 : List UInt8 := dkwX8_told_0 ++ dktX8_told_1
theorem dksX8_told_0 : cX8_told.data.toList.drop 0 = dktX8_told_0 := by decide +kernel
theorem dksX8_told_1 : cX8_told.data.toList.drop 22 = dktX8_told_1 := dk_seg dksX8_told_0 22 rfl rfl
theorem dksX8_told_2 : cX8_told.data.toList.drop 76 = dktX8_told_2 := dk_seg dksX8_told_1 54 rfl rfl
theorem dksX8_told_3 : cX8_told.data.toList.drop 98 = dktX8_told_3 := dk_seg dksX8_told_2 22 rfl rfl
theorem dksX8_told_4 : cX8_told.data.toList.drop 122 = dktX8_told_4 := dk_seg dksX8_told_3 24 rfl rfl
theorem dksX8_told_5 : cX8_told.data.toList.drop 146 = dktX8_told_5 := dk_seg dksX8_told_4 24 rfl rfl
theorem dX8_told_0 : decode cX8_told 0 = .ok (.aload_n 0, 1) := dk_42 (dk_at dksX8_told_0 0 rfl rfl)
theorem dX8_told_1 : decode cX8_told 1 = .ok (.iload_n 1, 1) := dk_27 (dk_at dksX8_told_0 1 rfl rfl)
theorem dX8_told_2 : decode cX8_told 2 = .ok (.invokevirtual 112, 3) := dk_182 0 112 (dk_at dksX8_told_0 2 rfl rfl)
theorem dX8_told_5 : decode cX8_told 5 = .ok (.ifCond .eq 13, 3) := dk_153 0 13 (dk_at dksX8_told_0 5 rfl rfl)
theorem dX8_told_8 : decode cX8_told 8 = .ok (.iload_n 2, 1) := dk_28 (dk_at dksX8_told_0 8 rfl rfl)
theorem dX8_told_9 : decode cX8_told 9 = .ok (.iconst 0, 1) := dk_3 (dk_at dksX8_told_0 9 rfl rfl)
theorem dX8_told_10 : decode cX8_told 10 = .ok (.bipush 10, 2) := dk_16 10 (dk_at dksX8_told_0 10 rfl rfl)
theorem dX8_told_12 : decode cX8_told 12 = .ok (.invokestatic 102, 3) := dk_184 0 102 (dk_at dksX8_told_0 12 rfl rfl)
theorem dX8_told_15 : decode cX8_told 15 = .ok (.ifCond .ne 6, 3) := dk_154 0 6 (dk_at dksX8_told_0 15 rfl rfl)
theorem dX8_told_18 : decode cX8_told 18 = .ok (.bipush (-2), 2) := dk_16 254 (dk_at dksX8_told_0 18 rfl rfl)
theorem dX8_told_20 : decode cX8_told 20 = .ok (.ireturn, 1) := dk_172 (dk_at dksX8_told_0 20 rfl rfl)
theorem dX8_told_21 : decode cX8_told 21 = .ok (.iload_n 2, 1) := dk_28 (dk_at dksX8_told_0 21 rfl rfl)
theorem dX8_told_22 : decode cX8_told 22 = .ok (.tableswitch 129 0 9 #[54, 61, 68, 75, 82, 89, 96, 103, 109, 115], 54) := by decide +kernel
theorem dX8_told_76 : decode cX8_told 76 = .ok (.aload_n 0, 1) := dk_42 (dk_at dksX8_told_2 0 rfl rfl)
theorem dX8_told_77 : decode cX8_told 77 = .ok (.getfield 16, 3) := dk_180 0 16 (dk_at dksX8_told_2 1 rfl rfl)
theorem dX8_told_80 : decode cX8_told 80 = .ok (.iload_n 1, 1) := dk_27 (dk_at dksX8_told_2 4 rfl rfl)
theorem dX8_told_81 : decode cX8_told 81 = .ok (.iaload, 1) := dk_46 (dk_at dksX8_told_2 5 rfl rfl)
theorem dX8_told_82 : decode cX8_told 82 = .ok (.ireturn, 1) := dk_172 (dk_at dksX8_told_2 6 rfl rfl)
theorem dX8_told_83 : decode cX8_told 83 = .ok (.aload_n 0, 1) := dk_42 (dk_at dksX8_told_2 7 rfl rfl)
theorem dX8_told_84 : decode cX8_told 84 = .ok (.getfield 19, 3) := dk_180 0 19 (dk_at dksX8_told_2 8 rfl rfl)
theorem dX8_told_87 : decode cX8_told 87 = .ok (.iload_n 1, 1) := dk_27 (dk_at dksX8_told_2 11 rfl rfl)
theorem dX8_told_88 : decode cX8_told 88 = .ok (.iaload, 1) := dk_46 (dk_at dksX8_told_2 12 rfl rfl)
theorem dX8_told_89 : decode cX8_told 89 = .ok (.ireturn, 1) := dk_172 (dk_at dksX8_told_2 13 rfl rfl)
theorem dX8_told_90 : decode cX8_told 90 = .ok (.aload_n 0, 1) := dk_42 (dk_at dksX8_told_2 14 rfl rfl)
theorem dX8_told_91 : decode cX8_told 91 = .ok (.getfield 22, 3) := dk_180 0 22 (dk_at dksX8_told_2 15 rfl rfl)
theorem dX8_told_94 : decode cX8_told 94 = .ok (.iload_n 1, 1) := dk_27 (dk_at dksX8_told_2 18 rfl rfl)
theorem dX8_told_95 : decode cX8_told 95 = .ok (.iaload, 1) := dk_46 (dk_at dksX8_told_2 19 rfl rfl)
theorem dX8_told_96 : decode cX8_told 96 = .ok (.ireturn, 1) := dk_172 (dk_at dksX8_told_2 20 rfl rfl)
theorem dX8_told_97 : decode cX8_told 97 = .ok (.aload_n 0, 1) := dk_42 (dk_at dksX8_told_2 21 rfl rfl)
theorem dX8_told_98 : decode cX8_told 98 = .ok (.getfield 13, 3) := dk_180 0 13 (dk_at dksX8_told_3 0 rfl rfl)
theorem dX8_told_101 : decode cX8_told 101 = .ok (.iload_n 1, 1) := dk_27 (dk_at dksX8_told_3 3 rfl rfl)
theorem dX8_told_102 : decode cX8_told 102 = .ok (.iaload, 1) := dk_46 (dk_at dksX8_told_3 4 rfl rfl)
theorem dX8_told_103 : decode cX8_told 103 = .ok (.ireturn, 1) := dk_172 (dk_at dksX8_told_3 5 rfl rfl)
theorem dX8_told_104 : decode cX8_told 104 = .ok (.aload_n 0, 1) := dk_42 (dk_at dksX8_told_3 6 rfl rfl)
theorem dX8_told_105 : decode cX8_told 105 = .ok (.getfield 7, 3) := dk_180 0 7 (dk_at dksX8_told_3 7 rfl rfl)
theorem dX8_told_108 : decode cX8_told 108 = .ok (.iload_n 1, 1) := dk_27 (dk_at dksX8_told_3 10 rfl rfl)
theorem dX8_told_109 : decode cX8_told 109 = .ok (.iaload, 1) := dk_46 (dk_at dksX8_told_3 11 rfl rfl)
theorem dX8_told_110 : decode cX8_told 110 = .ok (.ireturn, 1) := dk_172 (dk_at dksX8_told_3 12 rfl rfl)
theorem dX8_told_111 : decode cX8_told 111 = .ok (.aload_n 0, 1) := dk_42 (dk_at dksX8_told_3 13 rfl rfl)
theorem dX8_told_112 : decode cX8_told 112 = .ok (.getfield 25, 3) := dk_180 0 25 (dk_at dksX8_told_3 14 rfl rfl)
theorem dX8_told_115 : decode cX8_told 115 = .ok (.iload_n 1, 1) := dk_27 (dk_at dksX8_told_3 17 rfl rfl)
theorem dX8_told_116 : decode cX8_told 116 = .ok (.iaload, 1) := dk_46 (dk_at dksX8_told_3 18 rfl rfl)
theorem dX8_told_117 : decode cX8_told 117 = .ok (.ireturn, 1) := dk_172 (dk_at dksX8_told_3 19 rfl rfl)
theorem dX8_told_118 : decode cX8_told 118 = .ok (.aload_n 0, 1) := dk_42 (dk_at dksX8_told_3 20 rfl rfl)
theorem dX8_told_119 : decode cX8_told 119 = .ok (.getfield 28, 3) := dk_180 0 28 (dk_at dksX8_told_3 21 rfl rfl)
theorem dX8_told_122 : decode cX8_told 122 = .ok (.iload_n 1, 1) := dk_27 (dk_at dksX8_told_4 0 rfl rfl)
theorem dX8_told_123 : decode cX8_told 123 = .ok (.iaload, 1) := dk_46 (dk_at dksX8_told_4 1 rfl rfl)
theorem dX8_told_124 : decode cX8_told 124 = .ok (.ireturn, 1) := dk_172 (dk_at dksX8_told_4 2 rfl rfl)
theorem dX8_told_125 : decode cX8_told 125 = .ok (.aload_n 0, 1) := dk_42 (dk_at dksX8_told_4 3 rfl rfl)
theorem dX8_told_126 : decode cX8_told 126 = .ok (.iload_n 1, 1) := dk_27 (dk_at dksX8_told_4 4 rfl rfl)
theorem dX8_told_127 : decode cX8_told 127 = .ok (.invokevirtual 148, 3) := dk_182 0 148 (dk_at dksX8_told_4 5 rfl rfl)
theorem dX8_told_130 : decode cX8_told 130 = .ok (.ireturn, 1) := dk_172 (dk_at dksX8_told_4 8 rfl rfl)
theorem dX8_told_131 : decode cX8_told 131 = .ok (.aload_n 0, 1) := dk_42 (dk_at dksX8_told_4 9 rfl rfl)
theorem dX8_told_132 : decode cX8_told 132 = .ok (.iload_n 1, 1) := dk_27 (dk_at dksX8_told_4 10 rfl rfl)
theorem dX8_told_133 : decode cX8_told 133 = .ok (.invokevirtual 139, 3) := dk_182 0 139 (dk_at dksX8_told_4 11 rfl rfl)
theorem dX8_told_136 : decode cX8_told 136 = .ok (.ireturn, 1) := dk_172 (dk_at dksX8_told_4 14 rfl rfl)
theorem dX8_told_137 : decode cX8_told 137 = .ok (.aload_n 0, 1) := dk_42 (dk_at dksX8_told_4 15 rfl rfl)
theorem dX8_told_138 : decode cX8_told 138 = .ok (.iload_n 1, 1) := dk_27 (dk_at dksX8_told_4 16 rfl rfl)
theorem dX8_told_139 : decode cX8_told 139 = .ok (.invokevirtual 151, 3) := dk_182 0 151 (dk_at dksX8_told_4 17 rfl rfl)
theorem dX8_told_142 : decode cX8_told 142 = .ok (.ifCond .eq 7, 3) := dk_153 0 7 (dk_at dksX8_told_4 20 rfl rfl)
theorem dX8_told_145 : decode cX8_told 145 = .ok (.iconst 1, 1) := dk_4 (dk_at dksX8_told_4 23 rfl rfl)
theorem dX8_told_146 : decode cX8_told 146 = .ok (.goto 4, 3) := dk_167 0 4 (dk_at dksX8_told_5 0 rfl rfl)
theorem dX8_told_149 : decode cX8_told 149 = .ok (.iconst 0, 1) := dk_3 (dk_at dksX8_told_5 3 rfl rfl)
theorem dX8_told_150 : decode cX8_told 150 = .ok (.ireturn, 1) := dk_172 (dk_at dksX8_told_5 4 rfl rfl)
theorem dX8_told_151 : decode cX8_told 151 = .ok (.aload_n 0, 1) := dk_42 (dk_at dksX8_told_5 5 rfl rfl)
theorem dX8_told_152 : decode cX8_told 152 = .ok (.iload_n 1, 1) := dk_27 (dk_at dksX8_told_5 6 rfl rfl)
theorem dX8_told_153 : decode cX8_told 153 = .ok (.aload_n 0, 1) := dk_42 (dk_at dksX8_told_5 7 rfl rfl)
theorem dX8_told_154 : decode cX8_told 154 = .ok (.getfield 142, 3) := dk_180 0 142 (dk_at dksX8_told_5 8 rfl rfl)
theorem dX8_told_157 : decode cX8_told 157 = .ok (.invokevirtual 153, 3) := dk_182 0 153 (dk_at dksX8_told_5 11 rfl rfl)
theorem dX8_told_160 : decode cX8_told 160 = .ok (.ireturn, 1) := dk_172 (dk_at dksX8_told_5 14 rfl rfl)
abbrev cX8_rows : ByteArray := prog_16_method_7_code
def yX8_rows : MethodName := ⟨RX8, "rows", "(I)I"⟩
def dkwX8_rows_3 : List UInt8 := [180, 0, 116, 96, 172, 5, 28, 104, 172, 28, 172]
abbrev dktX8_rows_3 : List UInt8 := dkwX8_rows_3 ++ []
def dkwX8_rows_2 : List UInt8 := [28, 4, 100, 172, 28, 42, 180, 0, 116, 96, 172, 28, 4, 100, 42, 180, 0, 13, 27, 46, 96, 172, 28, 42]
abbrev dktX8_rows_2 : List UInt8 := dkwX8_rows_2 ++ dktX8_rows_3
def dkwX8_rows_1 : List UInt8 := [170, 0, 0, 0, 66, 0, 0, 0, 1, 0, 0, 0, 5, 0, 0, 0, 33, 0, 0, 0, 37, 0, 0, 0, 44, 0, 0, 0, 55, 0, 0, 0, 62]
abbrev dktX8_rows_1 : List UInt8 := dkwX8_rows_1 ++ dktX8_rows_2
def dkwX8_rows_0 : List UInt8 := [5, 42, 180, 0, 116, 5, 108, 96, 61, 42, 180, 0, 7, 27, 46]
abbrev dktX8_rows_0 : List UInt8 := dkwX8_rows_0 ++ dktX8_rows_1
theorem dksX8_rows_0 : cX8_rows.data.toList.drop 0 = dktX8_rows_0 := by decide +kernel
theorem dksX8_rows_1 : cX8_rows.data.toList.drop 15 = dktX8_rows_1 := dk_seg dksX8_rows_0 15 rfl rfl
theorem dksX8_rows_2 : cX8_rows.data.toList.drop 48 = dktX8_rows_2 := dk_seg dksX8_rows_1 33 rfl rfl
theorem dksX8_rows_3 : cX8_rows.data.toList.drop 72 = dktX8_rows_3 := dk_seg dksX8_rows_2 24 rfl rfl
theorem dX8_rows_0 : decode cX8_rows 0 = .ok (.iconst 2, 1) := dk_5 (dk_at dksX8_rows_0 0 rfl rfl)
theorem dX8_rows_1 : decode cX8_rows 1 = .ok (.aload_n 0, 1) := dk_42 (dk_at dksX8_rows_0 1 rfl rfl)
theorem dX8_rows_2 : decode cX8_rows 2 = .ok (.getfield 116, 3) := dk_180 0 116 (dk_at dksX8_rows_0 2 rfl rfl)
theorem dX8_rows_5 : decode cX8_rows 5 = .ok (.iconst 2, 1) := dk_5 (dk_at dksX8_rows_0 5 rfl rfl)
theorem dX8_rows_6 : decode cX8_rows 6 = .ok (.idiv, 1) := dk_108 (dk_at dksX8_rows_0 6 rfl rfl)
theorem dX8_rows_7 : decode cX8_rows 7 = .ok (.iadd, 1) := dk_96 (dk_at dksX8_rows_0 7 rfl rfl)
theorem dX8_rows_8 : decode cX8_rows 8 = .ok (.istore_n 2, 1) := dk_61 (dk_at dksX8_rows_0 8 rfl rfl)
theorem dX8_rows_9 : decode cX8_rows 9 = .ok (.aload_n 0, 1) := dk_42 (dk_at dksX8_rows_0 9 rfl rfl)
theorem dX8_rows_10 : decode cX8_rows 10 = .ok (.getfield 7, 3) := dk_180 0 7 (dk_at dksX8_rows_0 10 rfl rfl)
theorem dX8_rows_13 : decode cX8_rows 13 = .ok (.iload_n 1, 1) := dk_27 (dk_at dksX8_rows_0 13 rfl rfl)
theorem dX8_rows_14 : decode cX8_rows 14 = .ok (.iaload, 1) := dk_46 (dk_at dksX8_rows_0 14 rfl rfl)
theorem dX8_rows_15 : decode cX8_rows 15 = .ok (.tableswitch 66 1 5 #[33, 37, 44, 55, 62], 33) := by decide +kernel
theorem dX8_rows_48 : decode cX8_rows 48 = .ok (.iload_n 2, 1) := dk_28 (dk_at dksX8_rows_2 0 rfl rfl)
theorem dX8_rows_49 : decode cX8_rows 49 = .ok (.iconst 1, 1) := dk_4 (dk_at dksX8_rows_2 1 rfl rfl)
theorem dX8_rows_50 : decode cX8_rows 50 = .ok (.isub, 1) := dk_100 (dk_at dksX8_rows_2 2 rfl rfl)
theorem dX8_rows_51 : decode cX8_rows 51 = .ok (.ireturn, 1) := dk_172 (dk_at dksX8_rows_2 3 rfl rfl)
theorem dX8_rows_52 : decode cX8_rows 52 = .ok (.iload_n 2, 1) := dk_28 (dk_at dksX8_rows_2 4 rfl rfl)
theorem dX8_rows_53 : decode cX8_rows 53 = .ok (.aload_n 0, 1) := dk_42 (dk_at dksX8_rows_2 5 rfl rfl)
theorem dX8_rows_54 : decode cX8_rows 54 = .ok (.getfield 116, 3) := dk_180 0 116 (dk_at dksX8_rows_2 6 rfl rfl)
theorem dX8_rows_57 : decode cX8_rows 57 = .ok (.iadd, 1) := dk_96 (dk_at dksX8_rows_2 9 rfl rfl)
theorem dX8_rows_58 : decode cX8_rows 58 = .ok (.ireturn, 1) := dk_172 (dk_at dksX8_rows_2 10 rfl rfl)
theorem dX8_rows_59 : decode cX8_rows 59 = .ok (.iload_n 2, 1) := dk_28 (dk_at dksX8_rows_2 11 rfl rfl)
theorem dX8_rows_60 : decode cX8_rows 60 = .ok (.iconst 1, 1) := dk_4 (dk_at dksX8_rows_2 12 rfl rfl)
theorem dX8_rows_61 : decode cX8_rows 61 = .ok (.isub, 1) := dk_100 (dk_at dksX8_rows_2 13 rfl rfl)
theorem dX8_rows_62 : decode cX8_rows 62 = .ok (.aload_n 0, 1) := dk_42 (dk_at dksX8_rows_2 14 rfl rfl)
theorem dX8_rows_63 : decode cX8_rows 63 = .ok (.getfield 13, 3) := dk_180 0 13 (dk_at dksX8_rows_2 15 rfl rfl)
theorem dX8_rows_66 : decode cX8_rows 66 = .ok (.iload_n 1, 1) := dk_27 (dk_at dksX8_rows_2 18 rfl rfl)
theorem dX8_rows_67 : decode cX8_rows 67 = .ok (.iaload, 1) := dk_46 (dk_at dksX8_rows_2 19 rfl rfl)
theorem dX8_rows_68 : decode cX8_rows 68 = .ok (.iadd, 1) := dk_96 (dk_at dksX8_rows_2 20 rfl rfl)
theorem dX8_rows_69 : decode cX8_rows 69 = .ok (.ireturn, 1) := dk_172 (dk_at dksX8_rows_2 21 rfl rfl)
theorem dX8_rows_70 : decode cX8_rows 70 = .ok (.iload_n 2, 1) := dk_28 (dk_at dksX8_rows_2 22 rfl rfl)
theorem dX8_rows_71 : decode cX8_rows 71 = .ok (.aload_n 0, 1) := dk_42 (dk_at dksX8_rows_2 23 rfl rfl)
theorem dX8_rows_72 : decode cX8_rows 72 = .ok (.getfield 116, 3) := dk_180 0 116 (dk_at dksX8_rows_3 0 rfl rfl)
theorem dX8_rows_75 : decode cX8_rows 75 = .ok (.iadd, 1) := dk_96 (dk_at dksX8_rows_3 3 rfl rfl)
theorem dX8_rows_76 : decode cX8_rows 76 = .ok (.ireturn, 1) := dk_172 (dk_at dksX8_rows_3 4 rfl rfl)
theorem dX8_rows_77 : decode cX8_rows 77 = .ok (.iconst 2, 1) := dk_5 (dk_at dksX8_rows_3 5 rfl rfl)
theorem dX8_rows_78 : decode cX8_rows 78 = .ok (.iload_n 2, 1) := dk_28 (dk_at dksX8_rows_3 6 rfl rfl)
theorem dX8_rows_79 : decode cX8_rows 79 = .ok (.imul, 1) := dk_104 (dk_at dksX8_rows_3 7 rfl rfl)
theorem dX8_rows_80 : decode cX8_rows 80 = .ok (.ireturn, 1) := dk_172 (dk_at dksX8_rows_3 8 rfl rfl)
theorem dX8_rows_81 : decode cX8_rows 81 = .ok (.iload_n 2, 1) := dk_28 (dk_at dksX8_rows_3 9 rfl rfl)
theorem dX8_rows_82 : decode cX8_rows 82 = .ok (.ireturn, 1) := dk_172 (dk_at dksX8_rows_3 10 rfl rfl)
abbrev cX8_hearing : ByteArray := prog_16_method_8_code
def yX8_hearing : MethodName := ⟨RX8, "hearing", "(I)I"⟩
def dkwX8_hearing_4 : List UInt8 := [3, 167, 0, 4, 28, 172, 28, 172]
abbrev dktX8_hearing_4 : List UInt8 := dkwX8_hearing_4 ++ []
def dkwX8_hearing_3 : List UInt8 := [96, 172, 3, 28, 6, 100, 5, 108, 184, 0, 122, 172, 42, 180, 0, 13, 27, 46, 5, 112, 4, 160, 0, 7]
abbrev dktX8_hearing_3 : List UInt8 := dkwX8_hearing_3 ++ dktX8_hearing_4
def dkwX8_hearing_2 : List UInt8 := [28, 42, 180, 0, 13, 27, 46, 96, 172, 3, 28, 6, 100, 184, 0, 122, 172, 28, 42, 180, 0, 13, 27, 46]
abbrev dktX8_hearing_2 : List UInt8 := dkwX8_hearing_2 ++ dktX8_hearing_3
def dkwX8_hearing_1 : List UInt8 := [170, 0, 0, 0, 0, 88, 0, 0, 0, 1, 0, 0, 0, 5, 0, 0, 0, 34, 0, 0, 0, 43, 0, 0, 0, 51, 0, 0, 0, 60, 0, 0, 0, 70]
abbrev dktX8_hearing_1 : List UInt8 := dkwX8_hearing_1 ++ dktX8_hearing_2
def dkwX8_hearing_0 : List UInt8 := [16, 12, 42, 180, 0, 116, 100, 61, 42, 180, 0, 7, 27, 46]
abbrev dktX8_hearing_0 : List UInt8 := dkwX8_hearing_0 ++ dktX8_hearing_1
theorem dksX8_hearing_0 : cX8_hearing.data.toList.drop 0 = dktX8_hearing_0 := by decide +kernel
theorem dksX8_hearing_1 : cX8_hearing.data.toList.drop 14 = dktX8_hearing_1 := dk_seg dksX8_hearing_0 14 rfl rfl
theorem dksX8_hearing_2 : cX8_hearing.data.toList.drop 48 = dktX8_hearing_2 := dk_seg dksX8_hearing_1 34 rfl rfl
theorem dksX8_hearing_3 : cX8_hearing.data.toList.drop 72 = dktX8_hearing_3 := dk_seg dksX8_hearing_2 24 rfl rfl
theorem dksX8_hearing_4 : cX8_hearing.data.toList.drop 96 = dktX8_hearing_4 := dk_seg dksX8_hearing_3 24 rfl rfl
theorem dX8_hearing_0 : decode cX8_hearing 0 = .ok (.bipush 12, 2) := dk_16 12 (dk_at dksX8_hearing_0 0 rfl rfl)
theorem dX8_hearing_2 : decode cX8_hearing 2 = .ok (.aload_n 0, 1) := dk_42 (dk_at dksX8_hearing_0 2 rfl rfl)
theorem dX8_hearing_3 : decode cX8_hearing 3 = .ok (.getfield 116, 3) := dk_180 0 116 (dk_at dksX8_hearing_0 3 rfl rfl)
theorem dX8_hearing_6 : decode cX8_hearing 6 = .ok (.isub, 1) := dk_100 (dk_at dksX8_hearing_0 6 rfl rfl)
theorem dX8_hearing_7 : decode cX8_hearing 7 = .ok (.istore_n 2, 1) := dk_61 (dk_at dksX8_hearing_0 7 rfl rfl)
theorem dX8_hearing_8 : decode cX8_hearing 8 = .ok (.aload_n 0, 1) := dk_42 (dk_at dksX8_hearing_0 8 rfl rfl)
theorem dX8_hearing_9 : decode cX8_hearing 9 = .ok (.getfield 7, 3) := dk_180 0 7 (dk_at dksX8_hearing_0 9 rfl rfl)
theorem dX8_hearing_12 : decode cX8_hearing 12 = .ok (.iload_n 1, 1) := dk_27 (dk_at dksX8_hearing_0 12 rfl rfl)
theorem dX8_hearing_13 : decode cX8_hearing 13 = .ok (.iaload, 1) := dk_46 (dk_at dksX8_hearing_0 13 rfl rfl)
theorem dX8_hearing_14 : decode cX8_hearing 14 = .ok (.tableswitch 88 1 5 #[34, 43, 51, 60, 70], 34) := by decide +kernel
theorem dX8_hearing_48 : decode cX8_hearing 48 = .ok (.iload_n 2, 1) := dk_28 (dk_at dksX8_hearing_2 0 rfl rfl)
theorem dX8_hearing_49 : decode cX8_hearing 49 = .ok (.aload_n 0, 1) := dk_42 (dk_at dksX8_hearing_2 1 rfl rfl)
theorem dX8_hearing_50 : decode cX8_hearing 50 = .ok (.getfield 13, 3) := dk_180 0 13 (dk_at dksX8_hearing_2 2 rfl rfl)
theorem dX8_hearing_53 : decode cX8_hearing 53 = .ok (.iload_n 1, 1) := dk_27 (dk_at dksX8_hearing_2 5 rfl rfl)
theorem dX8_hearing_54 : decode cX8_hearing 54 = .ok (.iaload, 1) := dk_46 (dk_at dksX8_hearing_2 6 rfl rfl)
theorem dX8_hearing_55 : decode cX8_hearing 55 = .ok (.iadd, 1) := dk_96 (dk_at dksX8_hearing_2 7 rfl rfl)
theorem dX8_hearing_56 : decode cX8_hearing 56 = .ok (.ireturn, 1) := dk_172 (dk_at dksX8_hearing_2 8 rfl rfl)
theorem dX8_hearing_57 : decode cX8_hearing 57 = .ok (.iconst 0, 1) := dk_3 (dk_at dksX8_hearing_2 9 rfl rfl)
theorem dX8_hearing_58 : decode cX8_hearing 58 = .ok (.iload_n 2, 1) := dk_28 (dk_at dksX8_hearing_2 10 rfl rfl)
theorem dX8_hearing_59 : decode cX8_hearing 59 = .ok (.iconst 3, 1) := dk_6 (dk_at dksX8_hearing_2 11 rfl rfl)
theorem dX8_hearing_60 : decode cX8_hearing 60 = .ok (.isub, 1) := dk_100 (dk_at dksX8_hearing_2 12 rfl rfl)
theorem dX8_hearing_61 : decode cX8_hearing 61 = .ok (.invokestatic 122, 3) := dk_184 0 122 (dk_at dksX8_hearing_2 13 rfl rfl)
theorem dX8_hearing_64 : decode cX8_hearing 64 = .ok (.ireturn, 1) := dk_172 (dk_at dksX8_hearing_2 16 rfl rfl)
theorem dX8_hearing_65 : decode cX8_hearing 65 = .ok (.iload_n 2, 1) := dk_28 (dk_at dksX8_hearing_2 17 rfl rfl)
theorem dX8_hearing_66 : decode cX8_hearing 66 = .ok (.aload_n 0, 1) := dk_42 (dk_at dksX8_hearing_2 18 rfl rfl)
theorem dX8_hearing_67 : decode cX8_hearing 67 = .ok (.getfield 13, 3) := dk_180 0 13 (dk_at dksX8_hearing_2 19 rfl rfl)
theorem dX8_hearing_70 : decode cX8_hearing 70 = .ok (.iload_n 1, 1) := dk_27 (dk_at dksX8_hearing_2 22 rfl rfl)
theorem dX8_hearing_71 : decode cX8_hearing 71 = .ok (.iaload, 1) := dk_46 (dk_at dksX8_hearing_2 23 rfl rfl)
theorem dX8_hearing_72 : decode cX8_hearing 72 = .ok (.iadd, 1) := dk_96 (dk_at dksX8_hearing_3 0 rfl rfl)
theorem dX8_hearing_73 : decode cX8_hearing 73 = .ok (.ireturn, 1) := dk_172 (dk_at dksX8_hearing_3 1 rfl rfl)
theorem dX8_hearing_74 : decode cX8_hearing 74 = .ok (.iconst 0, 1) := dk_3 (dk_at dksX8_hearing_3 2 rfl rfl)
theorem dX8_hearing_75 : decode cX8_hearing 75 = .ok (.iload_n 2, 1) := dk_28 (dk_at dksX8_hearing_3 3 rfl rfl)
theorem dX8_hearing_76 : decode cX8_hearing 76 = .ok (.iconst 3, 1) := dk_6 (dk_at dksX8_hearing_3 4 rfl rfl)
theorem dX8_hearing_77 : decode cX8_hearing 77 = .ok (.isub, 1) := dk_100 (dk_at dksX8_hearing_3 5 rfl rfl)
theorem dX8_hearing_78 : decode cX8_hearing 78 = .ok (.iconst 2, 1) := dk_5 (dk_at dksX8_hearing_3 6 rfl rfl)
theorem dX8_hearing_79 : decode cX8_hearing 79 = .ok (.idiv, 1) := dk_108 (dk_at dksX8_hearing_3 7 rfl rfl)
theorem dX8_hearing_80 : decode cX8_hearing 80 = .ok (.invokestatic 122, 3) := dk_184 0 122 (dk_at dksX8_hearing_3 8 rfl rfl)
theorem dX8_hearing_83 : decode cX8_hearing 83 = .ok (.ireturn, 1) := dk_172 (dk_at dksX8_hearing_3 11 rfl rfl)
theorem dX8_hearing_84 : decode cX8_hearing 84 = .ok (.aload_n 0, 1) := dk_42 (dk_at dksX8_hearing_3 12 rfl rfl)
theorem dX8_hearing_85 : decode cX8_hearing 85 = .ok (.getfield 13, 3) := dk_180 0 13 (dk_at dksX8_hearing_3 13 rfl rfl)
theorem dX8_hearing_88 : decode cX8_hearing 88 = .ok (.iload_n 1, 1) := dk_27 (dk_at dksX8_hearing_3 16 rfl rfl)
theorem dX8_hearing_89 : decode cX8_hearing 89 = .ok (.iaload, 1) := dk_46 (dk_at dksX8_hearing_3 17 rfl rfl)
theorem dX8_hearing_90 : decode cX8_hearing 90 = .ok (.iconst 2, 1) := dk_5 (dk_at dksX8_hearing_3 18 rfl rfl)
theorem dX8_hearing_91 : decode cX8_hearing 91 = .ok (.irem, 1) := dk_112 (dk_at dksX8_hearing_3 19 rfl rfl)
theorem dX8_hearing_92 : decode cX8_hearing 92 = .ok (.iconst 1, 1) := dk_4 (dk_at dksX8_hearing_3 20 rfl rfl)
theorem dX8_hearing_93 : decode cX8_hearing 93 = .ok (.if_icmp .ne 7, 3) := dk_160 0 7 (dk_at dksX8_hearing_3 21 rfl rfl)
theorem dX8_hearing_96 : decode cX8_hearing 96 = .ok (.iconst 0, 1) := dk_3 (dk_at dksX8_hearing_4 0 rfl rfl)
theorem dX8_hearing_97 : decode cX8_hearing 97 = .ok (.goto 4, 3) := dk_167 0 4 (dk_at dksX8_hearing_4 1 rfl rfl)
theorem dX8_hearing_100 : decode cX8_hearing 100 = .ok (.iload_n 2, 1) := dk_28 (dk_at dksX8_hearing_4 4 rfl rfl)
theorem dX8_hearing_101 : decode cX8_hearing 101 = .ok (.ireturn, 1) := dk_172 (dk_at dksX8_hearing_4 5 rfl rfl)
theorem dX8_hearing_102 : decode cX8_hearing 102 = .ok (.iload_n 2, 1) := dk_28 (dk_at dksX8_hearing_4 6 rfl rfl)
theorem dX8_hearing_103 : decode cX8_hearing 103 = .ok (.ireturn, 1) := dk_172 (dk_at dksX8_hearing_4 7 rfl rfl)
abbrev cX8_would : ByteArray := prog_16_method_12_code
def yX8_would : MethodName := ⟨RX8, "would", "(I)Z"⟩
def dkwX8_would_0 : List UInt8 := [42, 27, 42, 180, 0, 16, 27, 46, 42, 180, 0, 142, 182, 0, 145, 172]
abbrev dktX8_would_0 : List UInt8 := dkwX8_would_0 ++ []
theorem dksX8_would_0 : cX8_would.data.toList.drop 0 = dktX8_would_0 := by decide +kernel
theorem dX8_would_0 : decode cX8_would 0 = .ok (.aload_n 0, 1) := dk_42 (dk_at dksX8_would_0 0 rfl rfl)
theorem dX8_would_1 : decode cX8_would 1 = .ok (.iload_n 1, 1) := dk_27 (dk_at dksX8_would_0 1 rfl rfl)
theorem dX8_would_2 : decode cX8_would 2 = .ok (.aload_n 0, 1) := dk_42 (dk_at dksX8_would_0 2 rfl rfl)
theorem dX8_would_3 : decode cX8_would 3 = .ok (.getfield 16, 3) := dk_180 0 16 (dk_at dksX8_would_0 3 rfl rfl)
theorem dX8_would_6 : decode cX8_would 6 = .ok (.iload_n 1, 1) := dk_27 (dk_at dksX8_would_0 6 rfl rfl)
theorem dX8_would_7 : decode cX8_would 7 = .ok (.iaload, 1) := dk_46 (dk_at dksX8_would_0 7 rfl rfl)
theorem dX8_would_8 : decode cX8_would 8 = .ok (.aload_n 0, 1) := dk_42 (dk_at dksX8_would_0 8 rfl rfl)
theorem dX8_would_9 : decode cX8_would 9 = .ok (.getfield 142, 3) := dk_180 0 142 (dk_at dksX8_would_0 9 rfl rfl)
theorem dX8_would_12 : decode cX8_would 12 = .ok (.invokevirtual 145, 3) := dk_182 0 145 (dk_at dksX8_would_0 12 rfl rfl)
theorem dX8_would_15 : decode cX8_would 15 = .ok (.ireturn, 1) := dk_172 (dk_at dksX8_would_0 15 rfl rfl)
abbrev cX8_would_2 : ByteArray := prog_16_method_11_code
def yX8_would_2 : MethodName := ⟨RX8, "would", "(III)Z"⟩
def dkwX8_would_2_1 : List UInt8 := [42, 5, 27, 28, 29, 182, 0, 132, 153, 0, 7, 4, 167, 0, 4, 3, 172]
abbrev dktX8_would_2_1 : List UInt8 := dkwX8_would_2_1 ++ []
def dkwX8_would_2_0 : List UInt8 := [28, 3, 184, 0, 126, 42, 27, 182, 0, 139, 163, 0, 29, 42, 4, 27, 28, 29, 182, 0, 132, 153, 0, 18]
abbrev dktX8_would_2_0 : List UInt8 := dkwX8_would_2_0 ++ dktX8_would_2_1
theorem dksX8_would_2_0 : cX8_would_2.data.toList.drop 0 = dktX8_would_2_0 := by decide +kernel
theorem dksX8_would_2_1 : cX8_would_2.data.toList.drop 24 = dktX8_would_2_1 := dk_seg dksX8_would_2_0 24 rfl rfl
theorem dX8_would_2_0 : decode cX8_would_2 0 = .ok (.iload_n 2, 1) := dk_28 (dk_at dksX8_would_2_0 0 rfl rfl)
theorem dX8_would_2_1 : decode cX8_would_2 1 = .ok (.iconst 0, 1) := dk_3 (dk_at dksX8_would_2_0 1 rfl rfl)
theorem dX8_would_2_2 : decode cX8_would_2 2 = .ok (.invokestatic 126, 3) := dk_184 0 126 (dk_at dksX8_would_2_0 2 rfl rfl)
theorem dX8_would_2_5 : decode cX8_would_2 5 = .ok (.aload_n 0, 1) := dk_42 (dk_at dksX8_would_2_0 5 rfl rfl)
theorem dX8_would_2_6 : decode cX8_would_2 6 = .ok (.iload_n 1, 1) := dk_27 (dk_at dksX8_would_2_0 6 rfl rfl)
theorem dX8_would_2_7 : decode cX8_would_2 7 = .ok (.invokevirtual 139, 3) := dk_182 0 139 (dk_at dksX8_would_2_0 7 rfl rfl)
theorem dX8_would_2_10 : decode cX8_would_2 10 = .ok (.if_icmp .gt 29, 3) := dk_163 0 29 (dk_at dksX8_would_2_0 10 rfl rfl)
theorem dX8_would_2_13 : decode cX8_would_2 13 = .ok (.aload_n 0, 1) := dk_42 (dk_at dksX8_would_2_0 13 rfl rfl)
theorem dX8_would_2_14 : decode cX8_would_2 14 = .ok (.iconst 1, 1) := dk_4 (dk_at dksX8_would_2_0 14 rfl rfl)
theorem dX8_would_2_15 : decode cX8_would_2 15 = .ok (.iload_n 1, 1) := dk_27 (dk_at dksX8_would_2_0 15 rfl rfl)
theorem dX8_would_2_16 : decode cX8_would_2 16 = .ok (.iload_n 2, 1) := dk_28 (dk_at dksX8_would_2_0 16 rfl rfl)
theorem dX8_would_2_17 : decode cX8_would_2 17 = .ok (.iload_n 3, 1) := dk_29 (dk_at dksX8_would_2_0 17 rfl rfl)
theorem dX8_would_2_18 : decode cX8_would_2 18 = .ok (.invokevirtual 132, 3) := dk_182 0 132 (dk_at dksX8_would_2_0 18 rfl rfl)
theorem dX8_would_2_21 : decode cX8_would_2 21 = .ok (.ifCond .eq 18, 3) := dk_153 0 18 (dk_at dksX8_would_2_0 21 rfl rfl)
theorem dX8_would_2_24 : decode cX8_would_2 24 = .ok (.aload_n 0, 1) := dk_42 (dk_at dksX8_would_2_1 0 rfl rfl)
theorem dX8_would_2_25 : decode cX8_would_2 25 = .ok (.iconst 2, 1) := dk_5 (dk_at dksX8_would_2_1 1 rfl rfl)
theorem dX8_would_2_26 : decode cX8_would_2 26 = .ok (.iload_n 1, 1) := dk_27 (dk_at dksX8_would_2_1 2 rfl rfl)
theorem dX8_would_2_27 : decode cX8_would_2 27 = .ok (.iload_n 2, 1) := dk_28 (dk_at dksX8_would_2_1 3 rfl rfl)
theorem dX8_would_2_28 : decode cX8_would_2 28 = .ok (.iload_n 3, 1) := dk_29 (dk_at dksX8_would_2_1 4 rfl rfl)
theorem dX8_would_2_29 : decode cX8_would_2 29 = .ok (.invokevirtual 132, 3) := dk_182 0 132 (dk_at dksX8_would_2_1 5 rfl rfl)
theorem dX8_would_2_32 : decode cX8_would_2 32 = .ok (.ifCond .eq 7, 3) := dk_153 0 7 (dk_at dksX8_would_2_1 8 rfl rfl)
theorem dX8_would_2_35 : decode cX8_would_2 35 = .ok (.iconst 1, 1) := dk_4 (dk_at dksX8_would_2_1 11 rfl rfl)
theorem dX8_would_2_36 : decode cX8_would_2 36 = .ok (.goto 4, 3) := dk_167 0 4 (dk_at dksX8_would_2_1 12 rfl rfl)
theorem dX8_would_2_39 : decode cX8_would_2 39 = .ok (.iconst 0, 1) := dk_3 (dk_at dksX8_would_2_1 15 rfl rfl)
theorem dX8_would_2_40 : decode cX8_would_2 40 = .ok (.ireturn, 1) := dk_172 (dk_at dksX8_would_2_1 16 rfl rfl)
abbrev cX8_far : ByteArray := prog_16_method_4_code
def yX8_far : MethodName := ⟨RX8, "far", "(II)I"⟩
def dkwX8_far_1 : List UInt8 := [96, 172]
abbrev dktX8_far_1 : List UInt8 := dkwX8_far_1 ++ []
def dkwX8_far_0 : List UInt8 := [26, 16, 8, 108, 27, 16, 8, 108, 100, 184, 0, 106, 26, 16, 8, 112, 27, 16, 8, 112, 100, 184, 0, 106]
abbrev dktX8_far_0 : List UInt8 := dkwX8_far_0 ++ dktX8_far_1
theorem dksX8_far_0 : cX8_far.data.toList.drop 0 = dktX8_far_0 := by decide +kernel
theorem dksX8_far_1 : cX8_far.data.toList.drop 24 = dktX8_far_1 := dk_seg dksX8_far_0 24 rfl rfl
theorem dX8_far_0 : decode cX8_far 0 = .ok (.iload_n 0, 1) := dk_26 (dk_at dksX8_far_0 0 rfl rfl)
theorem dX8_far_1 : decode cX8_far 1 = .ok (.bipush 8, 2) := dk_16 8 (dk_at dksX8_far_0 1 rfl rfl)
theorem dX8_far_3 : decode cX8_far 3 = .ok (.idiv, 1) := dk_108 (dk_at dksX8_far_0 3 rfl rfl)
theorem dX8_far_4 : decode cX8_far 4 = .ok (.iload_n 1, 1) := dk_27 (dk_at dksX8_far_0 4 rfl rfl)
theorem dX8_far_5 : decode cX8_far 5 = .ok (.bipush 8, 2) := dk_16 8 (dk_at dksX8_far_0 5 rfl rfl)
theorem dX8_far_7 : decode cX8_far 7 = .ok (.idiv, 1) := dk_108 (dk_at dksX8_far_0 7 rfl rfl)
theorem dX8_far_8 : decode cX8_far 8 = .ok (.isub, 1) := dk_100 (dk_at dksX8_far_0 8 rfl rfl)
theorem dX8_far_9 : decode cX8_far 9 = .ok (.invokestatic 106, 3) := dk_184 0 106 (dk_at dksX8_far_0 9 rfl rfl)
theorem dX8_far_12 : decode cX8_far 12 = .ok (.iload_n 0, 1) := dk_26 (dk_at dksX8_far_0 12 rfl rfl)
theorem dX8_far_13 : decode cX8_far 13 = .ok (.bipush 8, 2) := dk_16 8 (dk_at dksX8_far_0 13 rfl rfl)
theorem dX8_far_15 : decode cX8_far 15 = .ok (.irem, 1) := dk_112 (dk_at dksX8_far_0 15 rfl rfl)
theorem dX8_far_16 : decode cX8_far 16 = .ok (.iload_n 1, 1) := dk_27 (dk_at dksX8_far_0 16 rfl rfl)
theorem dX8_far_17 : decode cX8_far 17 = .ok (.bipush 8, 2) := dk_16 8 (dk_at dksX8_far_0 17 rfl rfl)
theorem dX8_far_19 : decode cX8_far 19 = .ok (.irem, 1) := dk_112 (dk_at dksX8_far_0 19 rfl rfl)
theorem dX8_far_20 : decode cX8_far 20 = .ok (.isub, 1) := dk_100 (dk_at dksX8_far_0 20 rfl rfl)
theorem dX8_far_21 : decode cX8_far 21 = .ok (.invokestatic 106, 3) := dk_184 0 106 (dk_at dksX8_far_0 21 rfl rfl)
theorem dX8_far_24 : decode cX8_far 24 = .ok (.iadd, 1) := dk_96 (dk_at dksX8_far_1 0 rfl rfl)
theorem dX8_far_25 : decode cX8_far 25 = .ok (.ireturn, 1) := dk_172 (dk_at dksX8_far_1 1 rfl rfl)
abbrev cX8_rules : ByteArray := prog_16_method_9_code
def yX8_rules : MethodName := ⟨RX8, "rules", "(IIII)I"⟩
def dkwX8_rules_19 : List UInt8 := [167, 254, 201, 42, 180, 0, 40, 3, 46, 172]
abbrev dktX8_rules_19 : List UInt8 := dkwX8_rules_19 ++ []
def dkwX8_rules_18 : List UInt8 := [167, 0, 10, 21, 10, 21, 9, 104, 54, 11, 42, 180, 0, 40, 21, 6, 4, 100, 21, 11, 79, 132, 7, 1]
abbrev dktX8_rules_18 : List UInt8 := dkwX8_rules_18 ++ dktX8_rules_19
def dkwX8_rules_17 : List UInt8 := [3, 54, 11, 167, 0, 30, 21, 10, 21, 9, 96, 54, 11, 167, 0, 20, 21, 10, 21, 9, 100, 54, 11]
abbrev dktX8_rules_17 : List UInt8 := dkwX8_rules_17 ++ dktX8_rules_18
def dkwX8_rules_16 : List UInt8 := [162, 0, 7, 4, 167, 0, 4, 3, 54, 11, 167, 0, 47, 21, 10, 21, 9, 160, 0, 7, 4, 167, 0, 4]
abbrev dktX8_rules_16 : List UInt8 := dkwX8_rules_16 ++ dktX8_rules_17
def dkwX8_rules_15 : List UInt8 := [153, 0, 12, 21, 9, 153, 0, 7, 4, 167, 0, 4, 3, 54, 11, 167, 0, 64, 21, 10, 21, 9]
abbrev dktX8_rules_15 : List UInt8 := dkwX8_rules_15 ++ dktX8_rules_16
def dkwX8_rules_14 : List UInt8 := [21, 10, 154, 0, 8, 21, 9, 153, 0, 7, 4, 167, 0, 4, 3, 54, 11, 167, 0, 84, 21, 10]
abbrev dktX8_rules_14 : List UInt8 := dkwX8_rules_14 ++ dktX8_rules_15
def dkwX8_rules_13 : List UInt8 := [170, 0, 0, 0, 0, 0, 137, 255, 255, 255, 239, 255, 255, 255, 245, 0, 0, 0, 127, 0, 0, 0, 117, 0, 0, 0, 100, 0, 0, 0, 83, 0, 0, 0, 137, 0, 0, 0, 63, 0, 0, 0, 43]
abbrev dktX8_rules_13 : List UInt8 := dkwX8_rules_13 ++ dktX8_rules_14
def dkwX8_rules_12 : List UInt8 := [21, 6, 5, 100, 46, 54, 10, 132, 6, 255, 21, 8]
abbrev dktX8_rules_12 : List UInt8 := dkwX8_rules_12 ++ dktX8_rules_13
def dkwX8_rules_11 : List UInt8 := [16, 237, 160, 0, 18, 42, 180, 0, 40, 21, 6, 4, 100, 21, 9, 116, 79, 167, 0, 174, 42, 180, 0, 40]
abbrev dktX8_rules_11 : List UInt8 := dkwX8_rules_11 ++ dktX8_rules_12
def dkwX8_rules_10 : List UInt8 := [180, 0, 40, 21, 6, 4, 100, 21, 9, 154, 0, 7, 4, 167, 0, 4, 3, 79, 167, 0, 196, 21, 8]
abbrev dktX8_rules_10 : List UInt8 := dkwX8_rules_10 ++ dktX8_rules_11
def dkwX8_rules_9 : List UInt8 := [167, 0, 236, 42, 180, 0, 40, 21, 6, 4, 100, 46, 54, 9, 21, 8, 16, 243, 160, 0, 25, 42]
abbrev dktX8_rules_9 : List UInt8 := dkwX8_rules_9 ++ dktX8_rules_10
def dkwX8_rules_8 : List UInt8 := [164, 0, 26, 42, 180, 0, 40, 21, 6, 132, 6, 1, 42, 180, 0, 43, 21, 8, 116, 4, 100, 46, 79]
abbrev dktX8_rules_8 : List UInt8 := dkwX8_rules_8 ++ dktX8_rules_9
def dkwX8_rules_7 : List UInt8 := [155, 0, 18, 42, 180, 0, 40, 21, 6, 132, 6, 1, 21, 8, 79, 167, 1, 10, 21, 8, 16, 249]
abbrev dktX8_rules_7 : List UInt8 := dkwX8_rules_7 ++ dktX8_rules_8
def dkwX8_rules_6 : List UInt8 := [162, 1, 54, 42, 180, 0, 34, 17, 0, 170, 42, 180, 0, 129, 104, 21, 7, 96, 46, 54, 8, 21, 8]
abbrev dktX8_rules_6 : List UInt8 := dkwX8_rules_6 ++ dktX8_rules_7
def dkwX8_rules_5 : List UInt8 := [3, 54, 6, 42, 180, 0, 37, 7, 42, 180, 0, 129, 104, 27, 96, 46, 54, 7, 21, 7, 21, 5]
abbrev dktX8_rules_5 : List UInt8 := dkwX8_rules_5 ++ dktX8_rules_6
def dkwX8_rules_4 : List UInt8 := [180, 0, 43, 8, 21, 4, 79, 42, 180, 0, 37, 7, 42, 180, 0, 129, 104, 27, 96, 4, 96, 46, 54, 5]
abbrev dktX8_rules_4 : List UInt8 := dkwX8_rules_4 ++ dktX8_rules_5
def dkwX8_rules_3 : List UInt8 := [180, 0, 70, 16, 8, 112, 164, 0, 7, 4, 167, 0, 4, 3, 79, 42, 180, 0, 43, 7, 28, 79, 42]
abbrev dktX8_rules_3 : List UInt8 := dkwX8_rules_3 ++ dktX8_rules_4
def dkwX8_rules_2 : List UInt8 := [180, 0, 43, 6, 29, 16, 8, 108, 42, 180, 0, 70, 16, 8, 108, 160, 0, 21, 29, 16, 8, 112, 42]
abbrev dktX8_rules_2 : List UInt8 := dkwX8_rules_2 ++ dktX8_rules_3
def dkwX8_rules_1 : List UInt8 := [180, 0, 43, 5, 21, 4, 42, 180, 0, 19, 28, 46, 100, 42, 180, 0, 22, 28, 46, 100, 79, 42]
abbrev dktX8_rules_1 : List UInt8 := dkwX8_rules_1 ++ dktX8_rules_2
def dkwX8_rules_0 : List UInt8 := [42, 180, 0, 43, 3, 29, 3, 184, 0, 126, 79, 42, 180, 0, 43, 4, 42, 180, 0, 116, 79, 42]
abbrev dktX8_rules_0 : List UInt8 := dkwX8_rules_0 ++ dktX8_rules_1
theorem dksX8_rules_0 : cX8_rules.data.toList.drop 0 = dktX8_rules_0 := by decide +kernel
theorem dksX8_rules_1 : cX8_rules.data.toList.drop 22 = dktX8_rules_1 := dk_seg dksX8_rules_0 22 rfl rfl
theorem dksX8_rules_2 : cX8_rules.data.toList.drop 44 = dktX8_rules_2 := dk_seg dksX8_rules_1 22 rfl rfl
theorem dksX8_rules_3 : cX8_rules.data.toList.drop 67 = dktX8_rules_3 := dk_seg dksX8_rules_2 23 rfl rfl
theorem dksX8_rules_4 : cX8_rules.data.toList.drop 90 = dktX8_rules_4 := dk_seg dksX8_rules_3 23 rfl rfl
theorem dksX8_rules_5 : cX8_rules.data.toList.drop 114 = dktX8_rules_5 := dk_seg dksX8_rules_4 24 rfl rfl
theorem dksX8_rules_6 : cX8_rules.data.toList.drop 136 = dktX8_rules_6 := dk_seg dksX8_rules_5 22 rfl rfl
theorem dksX8_rules_7 : cX8_rules.data.toList.drop 159 = dktX8_rules_7 := dk_seg dksX8_rules_6 23 rfl rfl
theorem dksX8_rules_8 : cX8_rules.data.toList.drop 181 = dktX8_rules_8 := dk_seg dksX8_rules_7 22 rfl rfl
theorem dksX8_rules_9 : cX8_rules.data.toList.drop 204 = dktX8_rules_9 := dk_seg dksX8_rules_8 23 rfl rfl
theorem dksX8_rules_10 : cX8_rules.data.toList.drop 226 = dktX8_rules_10 := dk_seg dksX8_rules_9 22 rfl rfl
theorem dksX8_rules_11 : cX8_rules.data.toList.drop 249 = dktX8_rules_11 := dk_seg dksX8_rules_10 23 rfl rfl
theorem dksX8_rules_12 : cX8_rules.data.toList.drop 273 = dktX8_rules_12 := dk_seg dksX8_rules_11 24 rfl rfl
theorem dksX8_rules_13 : cX8_rules.data.toList.drop 285 = dktX8_rules_13 := dk_seg dksX8_rules_12 12 rfl rfl
theorem dksX8_rules_14 : cX8_rules.data.toList.drop 328 = dktX8_rules_14 := dk_seg dksX8_rules_13 43 rfl rfl
theorem dksX8_rules_15 : cX8_rules.data.toList.drop 350 = dktX8_rules_15 := dk_seg dksX8_rules_14 22 rfl rfl
theorem dksX8_rules_16 : cX8_rules.data.toList.drop 372 = dktX8_rules_16 := dk_seg dksX8_rules_15 22 rfl rfl
theorem dksX8_rules_17 : cX8_rules.data.toList.drop 396 = dktX8_rules_17 := dk_seg dksX8_rules_16 24 rfl rfl
theorem dksX8_rules_18 : cX8_rules.data.toList.drop 419 = dktX8_rules_18 := dk_seg dksX8_rules_17 23 rfl rfl
theorem dksX8_rules_19 : cX8_rules.data.toList.drop 443 = dktX8_rules_19 := dk_seg dksX8_rules_18 24 rfl rfl
theorem dX8_rules_0 : decode cX8_rules 0 = .ok (.aload_n 0, 1) := dk_42 (dk_at dksX8_rules_0 0 rfl rfl)
theorem dX8_rules_1 : decode cX8_rules 1 = .ok (.getfield 43, 3) := dk_180 0 43 (dk_at dksX8_rules_0 1 rfl rfl)
theorem dX8_rules_4 : decode cX8_rules 4 = .ok (.iconst 0, 1) := dk_3 (dk_at dksX8_rules_0 4 rfl rfl)
theorem dX8_rules_5 : decode cX8_rules 5 = .ok (.iload_n 3, 1) := dk_29 (dk_at dksX8_rules_0 5 rfl rfl)
theorem dX8_rules_6 : decode cX8_rules 6 = .ok (.iconst 0, 1) := dk_3 (dk_at dksX8_rules_0 6 rfl rfl)
theorem dX8_rules_7 : decode cX8_rules 7 = .ok (.invokestatic 126, 3) := dk_184 0 126 (dk_at dksX8_rules_0 7 rfl rfl)
theorem dX8_rules_10 : decode cX8_rules 10 = .ok (.iastore, 1) := dk_79 (dk_at dksX8_rules_0 10 rfl rfl)
theorem dX8_rules_11 : decode cX8_rules 11 = .ok (.aload_n 0, 1) := dk_42 (dk_at dksX8_rules_0 11 rfl rfl)
theorem dX8_rules_12 : decode cX8_rules 12 = .ok (.getfield 43, 3) := dk_180 0 43 (dk_at dksX8_rules_0 12 rfl rfl)
theorem dX8_rules_15 : decode cX8_rules 15 = .ok (.iconst 1, 1) := dk_4 (dk_at dksX8_rules_0 15 rfl rfl)
theorem dX8_rules_16 : decode cX8_rules 16 = .ok (.aload_n 0, 1) := dk_42 (dk_at dksX8_rules_0 16 rfl rfl)
theorem dX8_rules_17 : decode cX8_rules 17 = .ok (.getfield 116, 3) := dk_180 0 116 (dk_at dksX8_rules_0 17 rfl rfl)
theorem dX8_rules_20 : decode cX8_rules 20 = .ok (.iastore, 1) := dk_79 (dk_at dksX8_rules_0 20 rfl rfl)
theorem dX8_rules_21 : decode cX8_rules 21 = .ok (.aload_n 0, 1) := dk_42 (dk_at dksX8_rules_0 21 rfl rfl)
theorem dX8_rules_22 : decode cX8_rules 22 = .ok (.getfield 43, 3) := dk_180 0 43 (dk_at dksX8_rules_1 0 rfl rfl)
theorem dX8_rules_25 : decode cX8_rules 25 = .ok (.iconst 2, 1) := dk_5 (dk_at dksX8_rules_1 3 rfl rfl)
theorem dX8_rules_26 : decode cX8_rules 26 = .ok (.iload 4, 2) := dk_21 4 (dk_at dksX8_rules_1 4 rfl rfl)
theorem dX8_rules_28 : decode cX8_rules 28 = .ok (.aload_n 0, 1) := dk_42 (dk_at dksX8_rules_1 6 rfl rfl)
theorem dX8_rules_29 : decode cX8_rules 29 = .ok (.getfield 19, 3) := dk_180 0 19 (dk_at dksX8_rules_1 7 rfl rfl)
theorem dX8_rules_32 : decode cX8_rules 32 = .ok (.iload_n 2, 1) := dk_28 (dk_at dksX8_rules_1 10 rfl rfl)
theorem dX8_rules_33 : decode cX8_rules 33 = .ok (.iaload, 1) := dk_46 (dk_at dksX8_rules_1 11 rfl rfl)
theorem dX8_rules_34 : decode cX8_rules 34 = .ok (.isub, 1) := dk_100 (dk_at dksX8_rules_1 12 rfl rfl)
theorem dX8_rules_35 : decode cX8_rules 35 = .ok (.aload_n 0, 1) := dk_42 (dk_at dksX8_rules_1 13 rfl rfl)
theorem dX8_rules_36 : decode cX8_rules 36 = .ok (.getfield 22, 3) := dk_180 0 22 (dk_at dksX8_rules_1 14 rfl rfl)
theorem dX8_rules_39 : decode cX8_rules 39 = .ok (.iload_n 2, 1) := dk_28 (dk_at dksX8_rules_1 17 rfl rfl)
theorem dX8_rules_40 : decode cX8_rules 40 = .ok (.iaload, 1) := dk_46 (dk_at dksX8_rules_1 18 rfl rfl)
theorem dX8_rules_41 : decode cX8_rules 41 = .ok (.isub, 1) := dk_100 (dk_at dksX8_rules_1 19 rfl rfl)
theorem dX8_rules_42 : decode cX8_rules 42 = .ok (.iastore, 1) := dk_79 (dk_at dksX8_rules_1 20 rfl rfl)
theorem dX8_rules_43 : decode cX8_rules 43 = .ok (.aload_n 0, 1) := dk_42 (dk_at dksX8_rules_1 21 rfl rfl)
theorem dX8_rules_44 : decode cX8_rules 44 = .ok (.getfield 43, 3) := dk_180 0 43 (dk_at dksX8_rules_2 0 rfl rfl)
theorem dX8_rules_47 : decode cX8_rules 47 = .ok (.iconst 3, 1) := dk_6 (dk_at dksX8_rules_2 3 rfl rfl)
theorem dX8_rules_48 : decode cX8_rules 48 = .ok (.iload_n 3, 1) := dk_29 (dk_at dksX8_rules_2 4 rfl rfl)
theorem dX8_rules_49 : decode cX8_rules 49 = .ok (.bipush 8, 2) := dk_16 8 (dk_at dksX8_rules_2 5 rfl rfl)
theorem dX8_rules_51 : decode cX8_rules 51 = .ok (.idiv, 1) := dk_108 (dk_at dksX8_rules_2 7 rfl rfl)
theorem dX8_rules_52 : decode cX8_rules 52 = .ok (.aload_n 0, 1) := dk_42 (dk_at dksX8_rules_2 8 rfl rfl)
theorem dX8_rules_53 : decode cX8_rules 53 = .ok (.getfield 70, 3) := dk_180 0 70 (dk_at dksX8_rules_2 9 rfl rfl)
theorem dX8_rules_56 : decode cX8_rules 56 = .ok (.bipush 8, 2) := dk_16 8 (dk_at dksX8_rules_2 12 rfl rfl)
theorem dX8_rules_58 : decode cX8_rules 58 = .ok (.idiv, 1) := dk_108 (dk_at dksX8_rules_2 14 rfl rfl)
theorem dX8_rules_59 : decode cX8_rules 59 = .ok (.if_icmp .ne 21, 3) := dk_160 0 21 (dk_at dksX8_rules_2 15 rfl rfl)
theorem dX8_rules_62 : decode cX8_rules 62 = .ok (.iload_n 3, 1) := dk_29 (dk_at dksX8_rules_2 18 rfl rfl)
theorem dX8_rules_63 : decode cX8_rules 63 = .ok (.bipush 8, 2) := dk_16 8 (dk_at dksX8_rules_2 19 rfl rfl)
theorem dX8_rules_65 : decode cX8_rules 65 = .ok (.irem, 1) := dk_112 (dk_at dksX8_rules_2 21 rfl rfl)
theorem dX8_rules_66 : decode cX8_rules 66 = .ok (.aload_n 0, 1) := dk_42 (dk_at dksX8_rules_2 22 rfl rfl)
theorem dX8_rules_67 : decode cX8_rules 67 = .ok (.getfield 70, 3) := dk_180 0 70 (dk_at dksX8_rules_3 0 rfl rfl)
theorem dX8_rules_70 : decode cX8_rules 70 = .ok (.bipush 8, 2) := dk_16 8 (dk_at dksX8_rules_3 3 rfl rfl)
theorem dX8_rules_72 : decode cX8_rules 72 = .ok (.irem, 1) := dk_112 (dk_at dksX8_rules_3 5 rfl rfl)
theorem dX8_rules_73 : decode cX8_rules 73 = .ok (.if_icmp .le 7, 3) := dk_164 0 7 (dk_at dksX8_rules_3 6 rfl rfl)
theorem dX8_rules_76 : decode cX8_rules 76 = .ok (.iconst 1, 1) := dk_4 (dk_at dksX8_rules_3 9 rfl rfl)
theorem dX8_rules_77 : decode cX8_rules 77 = .ok (.goto 4, 3) := dk_167 0 4 (dk_at dksX8_rules_3 10 rfl rfl)
theorem dX8_rules_80 : decode cX8_rules 80 = .ok (.iconst 0, 1) := dk_3 (dk_at dksX8_rules_3 13 rfl rfl)
theorem dX8_rules_81 : decode cX8_rules 81 = .ok (.iastore, 1) := dk_79 (dk_at dksX8_rules_3 14 rfl rfl)
theorem dX8_rules_82 : decode cX8_rules 82 = .ok (.aload_n 0, 1) := dk_42 (dk_at dksX8_rules_3 15 rfl rfl)
theorem dX8_rules_83 : decode cX8_rules 83 = .ok (.getfield 43, 3) := dk_180 0 43 (dk_at dksX8_rules_3 16 rfl rfl)
theorem dX8_rules_86 : decode cX8_rules 86 = .ok (.iconst 4, 1) := dk_7 (dk_at dksX8_rules_3 19 rfl rfl)
theorem dX8_rules_87 : decode cX8_rules 87 = .ok (.iload_n 2, 1) := dk_28 (dk_at dksX8_rules_3 20 rfl rfl)
theorem dX8_rules_88 : decode cX8_rules 88 = .ok (.iastore, 1) := dk_79 (dk_at dksX8_rules_3 21 rfl rfl)
theorem dX8_rules_89 : decode cX8_rules 89 = .ok (.aload_n 0, 1) := dk_42 (dk_at dksX8_rules_3 22 rfl rfl)
theorem dX8_rules_90 : decode cX8_rules 90 = .ok (.getfield 43, 3) := dk_180 0 43 (dk_at dksX8_rules_4 0 rfl rfl)
theorem dX8_rules_93 : decode cX8_rules 93 = .ok (.iconst 5, 1) := dk_8 (dk_at dksX8_rules_4 3 rfl rfl)
theorem dX8_rules_94 : decode cX8_rules 94 = .ok (.iload 4, 2) := dk_21 4 (dk_at dksX8_rules_4 4 rfl rfl)
theorem dX8_rules_96 : decode cX8_rules 96 = .ok (.iastore, 1) := dk_79 (dk_at dksX8_rules_4 6 rfl rfl)
theorem dX8_rules_97 : decode cX8_rules 97 = .ok (.aload_n 0, 1) := dk_42 (dk_at dksX8_rules_4 7 rfl rfl)
theorem dX8_rules_98 : decode cX8_rules 98 = .ok (.getfield 37, 3) := dk_180 0 37 (dk_at dksX8_rules_4 8 rfl rfl)
theorem dX8_rules_101 : decode cX8_rules 101 = .ok (.iconst 4, 1) := dk_7 (dk_at dksX8_rules_4 11 rfl rfl)
theorem dX8_rules_102 : decode cX8_rules 102 = .ok (.aload_n 0, 1) := dk_42 (dk_at dksX8_rules_4 12 rfl rfl)
theorem dX8_rules_103 : decode cX8_rules 103 = .ok (.getfield 129, 3) := dk_180 0 129 (dk_at dksX8_rules_4 13 rfl rfl)
theorem dX8_rules_106 : decode cX8_rules 106 = .ok (.imul, 1) := dk_104 (dk_at dksX8_rules_4 16 rfl rfl)
theorem dX8_rules_107 : decode cX8_rules 107 = .ok (.iload_n 1, 1) := dk_27 (dk_at dksX8_rules_4 17 rfl rfl)
theorem dX8_rules_108 : decode cX8_rules 108 = .ok (.iadd, 1) := dk_96 (dk_at dksX8_rules_4 18 rfl rfl)
theorem dX8_rules_109 : decode cX8_rules 109 = .ok (.iconst 1, 1) := dk_4 (dk_at dksX8_rules_4 19 rfl rfl)
theorem dX8_rules_110 : decode cX8_rules 110 = .ok (.iadd, 1) := dk_96 (dk_at dksX8_rules_4 20 rfl rfl)
theorem dX8_rules_111 : decode cX8_rules 111 = .ok (.iaload, 1) := dk_46 (dk_at dksX8_rules_4 21 rfl rfl)
theorem dX8_rules_112 : decode cX8_rules 112 = .ok (.istore 5, 2) := dk_54 5 (dk_at dksX8_rules_4 22 rfl rfl)
theorem dX8_rules_114 : decode cX8_rules 114 = .ok (.iconst 0, 1) := dk_3 (dk_at dksX8_rules_5 0 rfl rfl)
theorem dX8_rules_115 : decode cX8_rules 115 = .ok (.istore 6, 2) := dk_54 6 (dk_at dksX8_rules_5 1 rfl rfl)
theorem dX8_rules_117 : decode cX8_rules 117 = .ok (.aload_n 0, 1) := dk_42 (dk_at dksX8_rules_5 3 rfl rfl)
theorem dX8_rules_118 : decode cX8_rules 118 = .ok (.getfield 37, 3) := dk_180 0 37 (dk_at dksX8_rules_5 4 rfl rfl)
theorem dX8_rules_121 : decode cX8_rules 121 = .ok (.iconst 4, 1) := dk_7 (dk_at dksX8_rules_5 7 rfl rfl)
theorem dX8_rules_122 : decode cX8_rules 122 = .ok (.aload_n 0, 1) := dk_42 (dk_at dksX8_rules_5 8 rfl rfl)
theorem dX8_rules_123 : decode cX8_rules 123 = .ok (.getfield 129, 3) := dk_180 0 129 (dk_at dksX8_rules_5 9 rfl rfl)
theorem dX8_rules_126 : decode cX8_rules 126 = .ok (.imul, 1) := dk_104 (dk_at dksX8_rules_5 12 rfl rfl)
theorem dX8_rules_127 : decode cX8_rules 127 = .ok (.iload_n 1, 1) := dk_27 (dk_at dksX8_rules_5 13 rfl rfl)
theorem dX8_rules_128 : decode cX8_rules 128 = .ok (.iadd, 1) := dk_96 (dk_at dksX8_rules_5 14 rfl rfl)
theorem dX8_rules_129 : decode cX8_rules 129 = .ok (.iaload, 1) := dk_46 (dk_at dksX8_rules_5 15 rfl rfl)
theorem dX8_rules_130 : decode cX8_rules 130 = .ok (.istore 7, 2) := dk_54 7 (dk_at dksX8_rules_5 16 rfl rfl)
theorem dX8_rules_132 : decode cX8_rules 132 = .ok (.iload 7, 2) := dk_21 7 (dk_at dksX8_rules_5 18 rfl rfl)
theorem dX8_rules_134 : decode cX8_rules 134 = .ok (.iload 5, 2) := dk_21 5 (dk_at dksX8_rules_5 20 rfl rfl)
theorem dX8_rules_136 : decode cX8_rules 136 = .ok (.if_icmp .ge 310, 3) := dk_162 1 54 (dk_at dksX8_rules_6 0 rfl rfl)
theorem dX8_rules_139 : decode cX8_rules 139 = .ok (.aload_n 0, 1) := dk_42 (dk_at dksX8_rules_6 3 rfl rfl)
theorem dX8_rules_140 : decode cX8_rules 140 = .ok (.getfield 34, 3) := dk_180 0 34 (dk_at dksX8_rules_6 4 rfl rfl)
theorem dX8_rules_143 : decode cX8_rules 143 = .ok (.sipush 170, 3) := dk_17 0 170 (dk_at dksX8_rules_6 7 rfl rfl)
theorem dX8_rules_146 : decode cX8_rules 146 = .ok (.aload_n 0, 1) := dk_42 (dk_at dksX8_rules_6 10 rfl rfl)
theorem dX8_rules_147 : decode cX8_rules 147 = .ok (.getfield 129, 3) := dk_180 0 129 (dk_at dksX8_rules_6 11 rfl rfl)
theorem dX8_rules_150 : decode cX8_rules 150 = .ok (.imul, 1) := dk_104 (dk_at dksX8_rules_6 14 rfl rfl)
theorem dX8_rules_151 : decode cX8_rules 151 = .ok (.iload 7, 2) := dk_21 7 (dk_at dksX8_rules_6 15 rfl rfl)
theorem dX8_rules_153 : decode cX8_rules 153 = .ok (.iadd, 1) := dk_96 (dk_at dksX8_rules_6 17 rfl rfl)
theorem dX8_rules_154 : decode cX8_rules 154 = .ok (.iaload, 1) := dk_46 (dk_at dksX8_rules_6 18 rfl rfl)
theorem dX8_rules_155 : decode cX8_rules 155 = .ok (.istore 8, 2) := dk_54 8 (dk_at dksX8_rules_6 19 rfl rfl)
theorem dX8_rules_157 : decode cX8_rules 157 = .ok (.iload 8, 2) := dk_21 8 (dk_at dksX8_rules_6 21 rfl rfl)
theorem dX8_rules_159 : decode cX8_rules 159 = .ok (.ifCond .lt 18, 3) := dk_155 0 18 (dk_at dksX8_rules_7 0 rfl rfl)
theorem dX8_rules_162 : decode cX8_rules 162 = .ok (.aload_n 0, 1) := dk_42 (dk_at dksX8_rules_7 3 rfl rfl)
theorem dX8_rules_163 : decode cX8_rules 163 = .ok (.getfield 40, 3) := dk_180 0 40 (dk_at dksX8_rules_7 4 rfl rfl)
theorem dX8_rules_166 : decode cX8_rules 166 = .ok (.iload 6, 2) := dk_21 6 (dk_at dksX8_rules_7 7 rfl rfl)
theorem dX8_rules_168 : decode cX8_rules 168 = .ok (.iinc 6 1, 3) := dk_132 6 1 (dk_at dksX8_rules_7 9 rfl rfl)
theorem dX8_rules_171 : decode cX8_rules 171 = .ok (.iload 8, 2) := dk_21 8 (dk_at dksX8_rules_7 12 rfl rfl)
theorem dX8_rules_173 : decode cX8_rules 173 = .ok (.iastore, 1) := dk_79 (dk_at dksX8_rules_7 14 rfl rfl)
theorem dX8_rules_174 : decode cX8_rules 174 = .ok (.goto 266, 3) := dk_167 1 10 (dk_at dksX8_rules_7 15 rfl rfl)
theorem dX8_rules_177 : decode cX8_rules 177 = .ok (.iload 8, 2) := dk_21 8 (dk_at dksX8_rules_7 18 rfl rfl)
theorem dX8_rules_179 : decode cX8_rules 179 = .ok (.bipush (-7), 2) := dk_16 249 (dk_at dksX8_rules_7 20 rfl rfl)
theorem dX8_rules_181 : decode cX8_rules 181 = .ok (.if_icmp .le 26, 3) := dk_164 0 26 (dk_at dksX8_rules_8 0 rfl rfl)
theorem dX8_rules_184 : decode cX8_rules 184 = .ok (.aload_n 0, 1) := dk_42 (dk_at dksX8_rules_8 3 rfl rfl)
theorem dX8_rules_185 : decode cX8_rules 185 = .ok (.getfield 40, 3) := dk_180 0 40 (dk_at dksX8_rules_8 4 rfl rfl)
theorem dX8_rules_188 : decode cX8_rules 188 = .ok (.iload 6, 2) := dk_21 6 (dk_at dksX8_rules_8 7 rfl rfl)
theorem dX8_rules_190 : decode cX8_rules 190 = .ok (.iinc 6 1, 3) := dk_132 6 1 (dk_at dksX8_rules_8 9 rfl rfl)
theorem dX8_rules_193 : decode cX8_rules 193 = .ok (.aload_n 0, 1) := dk_42 (dk_at dksX8_rules_8 12 rfl rfl)
theorem dX8_rules_194 : decode cX8_rules 194 = .ok (.getfield 43, 3) := dk_180 0 43 (dk_at dksX8_rules_8 13 rfl rfl)
theorem dX8_rules_197 : decode cX8_rules 197 = .ok (.iload 8, 2) := dk_21 8 (dk_at dksX8_rules_8 16 rfl rfl)
theorem dX8_rules_199 : decode cX8_rules 199 = .ok (.ineg, 1) := dk_116 (dk_at dksX8_rules_8 18 rfl rfl)
theorem dX8_rules_200 : decode cX8_rules 200 = .ok (.iconst 1, 1) := dk_4 (dk_at dksX8_rules_8 19 rfl rfl)
theorem dX8_rules_201 : decode cX8_rules 201 = .ok (.isub, 1) := dk_100 (dk_at dksX8_rules_8 20 rfl rfl)
theorem dX8_rules_202 : decode cX8_rules 202 = .ok (.iaload, 1) := dk_46 (dk_at dksX8_rules_8 21 rfl rfl)
theorem dX8_rules_203 : decode cX8_rules 203 = .ok (.iastore, 1) := dk_79 (dk_at dksX8_rules_8 22 rfl rfl)
theorem dX8_rules_204 : decode cX8_rules 204 = .ok (.goto 236, 3) := dk_167 0 236 (dk_at dksX8_rules_9 0 rfl rfl)
theorem dX8_rules_207 : decode cX8_rules 207 = .ok (.aload_n 0, 1) := dk_42 (dk_at dksX8_rules_9 3 rfl rfl)
theorem dX8_rules_208 : decode cX8_rules 208 = .ok (.getfield 40, 3) := dk_180 0 40 (dk_at dksX8_rules_9 4 rfl rfl)
theorem dX8_rules_211 : decode cX8_rules 211 = .ok (.iload 6, 2) := dk_21 6 (dk_at dksX8_rules_9 7 rfl rfl)
theorem dX8_rules_213 : decode cX8_rules 213 = .ok (.iconst 1, 1) := dk_4 (dk_at dksX8_rules_9 9 rfl rfl)
theorem dX8_rules_214 : decode cX8_rules 214 = .ok (.isub, 1) := dk_100 (dk_at dksX8_rules_9 10 rfl rfl)
theorem dX8_rules_215 : decode cX8_rules 215 = .ok (.iaload, 1) := dk_46 (dk_at dksX8_rules_9 11 rfl rfl)
theorem dX8_rules_216 : decode cX8_rules 216 = .ok (.istore 9, 2) := dk_54 9 (dk_at dksX8_rules_9 12 rfl rfl)
theorem dX8_rules_218 : decode cX8_rules 218 = .ok (.iload 8, 2) := dk_21 8 (dk_at dksX8_rules_9 14 rfl rfl)
theorem dX8_rules_220 : decode cX8_rules 220 = .ok (.bipush (-13), 2) := dk_16 243 (dk_at dksX8_rules_9 16 rfl rfl)
theorem dX8_rules_222 : decode cX8_rules 222 = .ok (.if_icmp .ne 25, 3) := dk_160 0 25 (dk_at dksX8_rules_9 18 rfl rfl)
theorem dX8_rules_225 : decode cX8_rules 225 = .ok (.aload_n 0, 1) := dk_42 (dk_at dksX8_rules_9 21 rfl rfl)
theorem dX8_rules_226 : decode cX8_rules 226 = .ok (.getfield 40, 3) := dk_180 0 40 (dk_at dksX8_rules_10 0 rfl rfl)
theorem dX8_rules_229 : decode cX8_rules 229 = .ok (.iload 6, 2) := dk_21 6 (dk_at dksX8_rules_10 3 rfl rfl)
theorem dX8_rules_231 : decode cX8_rules 231 = .ok (.iconst 1, 1) := dk_4 (dk_at dksX8_rules_10 5 rfl rfl)
theorem dX8_rules_232 : decode cX8_rules 232 = .ok (.isub, 1) := dk_100 (dk_at dksX8_rules_10 6 rfl rfl)
theorem dX8_rules_233 : decode cX8_rules 233 = .ok (.iload 9, 2) := dk_21 9 (dk_at dksX8_rules_10 7 rfl rfl)
theorem dX8_rules_235 : decode cX8_rules 235 = .ok (.ifCond .ne 7, 3) := dk_154 0 7 (dk_at dksX8_rules_10 9 rfl rfl)
theorem dX8_rules_238 : decode cX8_rules 238 = .ok (.iconst 1, 1) := dk_4 (dk_at dksX8_rules_10 12 rfl rfl)
theorem dX8_rules_239 : decode cX8_rules 239 = .ok (.goto 4, 3) := dk_167 0 4 (dk_at dksX8_rules_10 13 rfl rfl)
theorem dX8_rules_242 : decode cX8_rules 242 = .ok (.iconst 0, 1) := dk_3 (dk_at dksX8_rules_10 16 rfl rfl)
theorem dX8_rules_243 : decode cX8_rules 243 = .ok (.iastore, 1) := dk_79 (dk_at dksX8_rules_10 17 rfl rfl)
theorem dX8_rules_244 : decode cX8_rules 244 = .ok (.goto 196, 3) := dk_167 0 196 (dk_at dksX8_rules_10 18 rfl rfl)
theorem dX8_rules_247 : decode cX8_rules 247 = .ok (.iload 8, 2) := dk_21 8 (dk_at dksX8_rules_10 21 rfl rfl)
theorem dX8_rules_249 : decode cX8_rules 249 = .ok (.bipush (-19), 2) := dk_16 237 (dk_at dksX8_rules_11 0 rfl rfl)
theorem dX8_rules_251 : decode cX8_rules 251 = .ok (.if_icmp .ne 18, 3) := dk_160 0 18 (dk_at dksX8_rules_11 2 rfl rfl)
theorem dX8_rules_254 : decode cX8_rules 254 = .ok (.aload_n 0, 1) := dk_42 (dk_at dksX8_rules_11 5 rfl rfl)
theorem dX8_rules_255 : decode cX8_rules 255 = .ok (.getfield 40, 3) := dk_180 0 40 (dk_at dksX8_rules_11 6 rfl rfl)
theorem dX8_rules_258 : decode cX8_rules 258 = .ok (.iload 6, 2) := dk_21 6 (dk_at dksX8_rules_11 9 rfl rfl)
theorem dX8_rules_260 : decode cX8_rules 260 = .ok (.iconst 1, 1) := dk_4 (dk_at dksX8_rules_11 11 rfl rfl)
theorem dX8_rules_261 : decode cX8_rules 261 = .ok (.isub, 1) := dk_100 (dk_at dksX8_rules_11 12 rfl rfl)
theorem dX8_rules_262 : decode cX8_rules 262 = .ok (.iload 9, 2) := dk_21 9 (dk_at dksX8_rules_11 13 rfl rfl)
theorem dX8_rules_264 : decode cX8_rules 264 = .ok (.ineg, 1) := dk_116 (dk_at dksX8_rules_11 15 rfl rfl)
theorem dX8_rules_265 : decode cX8_rules 265 = .ok (.iastore, 1) := dk_79 (dk_at dksX8_rules_11 16 rfl rfl)
theorem dX8_rules_266 : decode cX8_rules 266 = .ok (.goto 174, 3) := dk_167 0 174 (dk_at dksX8_rules_11 17 rfl rfl)
theorem dX8_rules_269 : decode cX8_rules 269 = .ok (.aload_n 0, 1) := dk_42 (dk_at dksX8_rules_11 20 rfl rfl)
theorem dX8_rules_270 : decode cX8_rules 270 = .ok (.getfield 40, 3) := dk_180 0 40 (dk_at dksX8_rules_11 21 rfl rfl)
theorem dX8_rules_273 : decode cX8_rules 273 = .ok (.iload 6, 2) := dk_21 6 (dk_at dksX8_rules_12 0 rfl rfl)
theorem dX8_rules_275 : decode cX8_rules 275 = .ok (.iconst 2, 1) := dk_5 (dk_at dksX8_rules_12 2 rfl rfl)
theorem dX8_rules_276 : decode cX8_rules 276 = .ok (.isub, 1) := dk_100 (dk_at dksX8_rules_12 3 rfl rfl)
theorem dX8_rules_277 : decode cX8_rules 277 = .ok (.iaload, 1) := dk_46 (dk_at dksX8_rules_12 4 rfl rfl)
theorem dX8_rules_278 : decode cX8_rules 278 = .ok (.istore 10, 2) := dk_54 10 (dk_at dksX8_rules_12 5 rfl rfl)
theorem dX8_rules_280 : decode cX8_rules 280 = .ok (.iinc 6 (-1), 3) := dk_132 6 255 (dk_at dksX8_rules_12 7 rfl rfl)
theorem dX8_rules_283 : decode cX8_rules 283 = .ok (.iload 8, 2) := dk_21 8 (dk_at dksX8_rules_12 10 rfl rfl)
theorem dX8_rules_285 : decode cX8_rules 285 = .ok (.tableswitch 137 (-17) (-11) #[127, 117, 100, 83, 137, 63, 43], 43) := by decide +kernel
theorem dX8_rules_328 : decode cX8_rules 328 = .ok (.iload 10, 2) := dk_21 10 (dk_at dksX8_rules_14 0 rfl rfl)
theorem dX8_rules_330 : decode cX8_rules 330 = .ok (.ifCond .ne 8, 3) := dk_154 0 8 (dk_at dksX8_rules_14 2 rfl rfl)
theorem dX8_rules_333 : decode cX8_rules 333 = .ok (.iload 9, 2) := dk_21 9 (dk_at dksX8_rules_14 5 rfl rfl)
theorem dX8_rules_335 : decode cX8_rules 335 = .ok (.ifCond .eq 7, 3) := dk_153 0 7 (dk_at dksX8_rules_14 7 rfl rfl)
theorem dX8_rules_338 : decode cX8_rules 338 = .ok (.iconst 1, 1) := dk_4 (dk_at dksX8_rules_14 10 rfl rfl)
theorem dX8_rules_339 : decode cX8_rules 339 = .ok (.goto 4, 3) := dk_167 0 4 (dk_at dksX8_rules_14 11 rfl rfl)
theorem dX8_rules_342 : decode cX8_rules 342 = .ok (.iconst 0, 1) := dk_3 (dk_at dksX8_rules_14 14 rfl rfl)
theorem dX8_rules_343 : decode cX8_rules 343 = .ok (.istore 11, 2) := dk_54 11 (dk_at dksX8_rules_14 15 rfl rfl)
theorem dX8_rules_345 : decode cX8_rules 345 = .ok (.goto 84, 3) := dk_167 0 84 (dk_at dksX8_rules_14 17 rfl rfl)
theorem dX8_rules_348 : decode cX8_rules 348 = .ok (.iload 10, 2) := dk_21 10 (dk_at dksX8_rules_14 20 rfl rfl)
theorem dX8_rules_350 : decode cX8_rules 350 = .ok (.ifCond .eq 12, 3) := dk_153 0 12 (dk_at dksX8_rules_15 0 rfl rfl)
theorem dX8_rules_353 : decode cX8_rules 353 = .ok (.iload 9, 2) := dk_21 9 (dk_at dksX8_rules_15 3 rfl rfl)
theorem dX8_rules_355 : decode cX8_rules 355 = .ok (.ifCond .eq 7, 3) := dk_153 0 7 (dk_at dksX8_rules_15 5 rfl rfl)
theorem dX8_rules_358 : decode cX8_rules 358 = .ok (.iconst 1, 1) := dk_4 (dk_at dksX8_rules_15 8 rfl rfl)
theorem dX8_rules_359 : decode cX8_rules 359 = .ok (.goto 4, 3) := dk_167 0 4 (dk_at dksX8_rules_15 9 rfl rfl)
theorem dX8_rules_362 : decode cX8_rules 362 = .ok (.iconst 0, 1) := dk_3 (dk_at dksX8_rules_15 12 rfl rfl)
theorem dX8_rules_363 : decode cX8_rules 363 = .ok (.istore 11, 2) := dk_54 11 (dk_at dksX8_rules_15 13 rfl rfl)
theorem dX8_rules_365 : decode cX8_rules 365 = .ok (.goto 64, 3) := dk_167 0 64 (dk_at dksX8_rules_15 15 rfl rfl)
theorem dX8_rules_368 : decode cX8_rules 368 = .ok (.iload 10, 2) := dk_21 10 (dk_at dksX8_rules_15 18 rfl rfl)
theorem dX8_rules_370 : decode cX8_rules 370 = .ok (.iload 9, 2) := dk_21 9 (dk_at dksX8_rules_15 20 rfl rfl)
theorem dX8_rules_372 : decode cX8_rules 372 = .ok (.if_icmp .ge 7, 3) := dk_162 0 7 (dk_at dksX8_rules_16 0 rfl rfl)
theorem dX8_rules_375 : decode cX8_rules 375 = .ok (.iconst 1, 1) := dk_4 (dk_at dksX8_rules_16 3 rfl rfl)
theorem dX8_rules_376 : decode cX8_rules 376 = .ok (.goto 4, 3) := dk_167 0 4 (dk_at dksX8_rules_16 4 rfl rfl)
theorem dX8_rules_379 : decode cX8_rules 379 = .ok (.iconst 0, 1) := dk_3 (dk_at dksX8_rules_16 7 rfl rfl)
theorem dX8_rules_380 : decode cX8_rules 380 = .ok (.istore 11, 2) := dk_54 11 (dk_at dksX8_rules_16 8 rfl rfl)
theorem dX8_rules_382 : decode cX8_rules 382 = .ok (.goto 47, 3) := dk_167 0 47 (dk_at dksX8_rules_16 10 rfl rfl)
theorem dX8_rules_385 : decode cX8_rules 385 = .ok (.iload 10, 2) := dk_21 10 (dk_at dksX8_rules_16 13 rfl rfl)
theorem dX8_rules_387 : decode cX8_rules 387 = .ok (.iload 9, 2) := dk_21 9 (dk_at dksX8_rules_16 15 rfl rfl)
theorem dX8_rules_389 : decode cX8_rules 389 = .ok (.if_icmp .ne 7, 3) := dk_160 0 7 (dk_at dksX8_rules_16 17 rfl rfl)
theorem dX8_rules_392 : decode cX8_rules 392 = .ok (.iconst 1, 1) := dk_4 (dk_at dksX8_rules_16 20 rfl rfl)
theorem dX8_rules_393 : decode cX8_rules 393 = .ok (.goto 4, 3) := dk_167 0 4 (dk_at dksX8_rules_16 21 rfl rfl)
theorem dX8_rules_396 : decode cX8_rules 396 = .ok (.iconst 0, 1) := dk_3 (dk_at dksX8_rules_17 0 rfl rfl)
theorem dX8_rules_397 : decode cX8_rules 397 = .ok (.istore 11, 2) := dk_54 11 (dk_at dksX8_rules_17 1 rfl rfl)
theorem dX8_rules_399 : decode cX8_rules 399 = .ok (.goto 30, 3) := dk_167 0 30 (dk_at dksX8_rules_17 3 rfl rfl)
theorem dX8_rules_402 : decode cX8_rules 402 = .ok (.iload 10, 2) := dk_21 10 (dk_at dksX8_rules_17 6 rfl rfl)
theorem dX8_rules_404 : decode cX8_rules 404 = .ok (.iload 9, 2) := dk_21 9 (dk_at dksX8_rules_17 8 rfl rfl)
theorem dX8_rules_406 : decode cX8_rules 406 = .ok (.iadd, 1) := dk_96 (dk_at dksX8_rules_17 10 rfl rfl)
theorem dX8_rules_407 : decode cX8_rules 407 = .ok (.istore 11, 2) := dk_54 11 (dk_at dksX8_rules_17 11 rfl rfl)
theorem dX8_rules_409 : decode cX8_rules 409 = .ok (.goto 20, 3) := dk_167 0 20 (dk_at dksX8_rules_17 13 rfl rfl)
theorem dX8_rules_412 : decode cX8_rules 412 = .ok (.iload 10, 2) := dk_21 10 (dk_at dksX8_rules_17 16 rfl rfl)
theorem dX8_rules_414 : decode cX8_rules 414 = .ok (.iload 9, 2) := dk_21 9 (dk_at dksX8_rules_17 18 rfl rfl)
theorem dX8_rules_416 : decode cX8_rules 416 = .ok (.isub, 1) := dk_100 (dk_at dksX8_rules_17 20 rfl rfl)
theorem dX8_rules_417 : decode cX8_rules 417 = .ok (.istore 11, 2) := dk_54 11 (dk_at dksX8_rules_17 21 rfl rfl)
theorem dX8_rules_419 : decode cX8_rules 419 = .ok (.goto 10, 3) := dk_167 0 10 (dk_at dksX8_rules_18 0 rfl rfl)
theorem dX8_rules_422 : decode cX8_rules 422 = .ok (.iload 10, 2) := dk_21 10 (dk_at dksX8_rules_18 3 rfl rfl)
theorem dX8_rules_424 : decode cX8_rules 424 = .ok (.iload 9, 2) := dk_21 9 (dk_at dksX8_rules_18 5 rfl rfl)
theorem dX8_rules_426 : decode cX8_rules 426 = .ok (.imul, 1) := dk_104 (dk_at dksX8_rules_18 7 rfl rfl)
theorem dX8_rules_427 : decode cX8_rules 427 = .ok (.istore 11, 2) := dk_54 11 (dk_at dksX8_rules_18 8 rfl rfl)
theorem dX8_rules_429 : decode cX8_rules 429 = .ok (.aload_n 0, 1) := dk_42 (dk_at dksX8_rules_18 10 rfl rfl)
theorem dX8_rules_430 : decode cX8_rules 430 = .ok (.getfield 40, 3) := dk_180 0 40 (dk_at dksX8_rules_18 11 rfl rfl)
theorem dX8_rules_433 : decode cX8_rules 433 = .ok (.iload 6, 2) := dk_21 6 (dk_at dksX8_rules_18 14 rfl rfl)
theorem dX8_rules_435 : decode cX8_rules 435 = .ok (.iconst 1, 1) := dk_4 (dk_at dksX8_rules_18 16 rfl rfl)
theorem dX8_rules_436 : decode cX8_rules 436 = .ok (.isub, 1) := dk_100 (dk_at dksX8_rules_18 17 rfl rfl)
theorem dX8_rules_437 : decode cX8_rules 437 = .ok (.iload 11, 2) := dk_21 11 (dk_at dksX8_rules_18 18 rfl rfl)
theorem dX8_rules_439 : decode cX8_rules 439 = .ok (.iastore, 1) := dk_79 (dk_at dksX8_rules_18 20 rfl rfl)
theorem dX8_rules_440 : decode cX8_rules 440 = .ok (.iinc 7 1, 3) := dk_132 7 1 (dk_at dksX8_rules_18 21 rfl rfl)
theorem dX8_rules_443 : decode cX8_rules 443 = .ok (.goto (-311), 3) := dk_167 254 201 (dk_at dksX8_rules_19 0 rfl rfl)
theorem dX8_rules_446 : decode cX8_rules 446 = .ok (.aload_n 0, 1) := dk_42 (dk_at dksX8_rules_19 3 rfl rfl)
theorem dX8_rules_447 : decode cX8_rules 447 = .ok (.getfield 40, 3) := dk_180 0 40 (dk_at dksX8_rules_19 4 rfl rfl)
theorem dX8_rules_450 : decode cX8_rules 450 = .ok (.iconst 0, 1) := dk_3 (dk_at dksX8_rules_19 7 rfl rfl)
theorem dX8_rules_451 : decode cX8_rules 451 = .ok (.iaload, 1) := dk_46 (dk_at dksX8_rules_19 8 rfl rfl)
theorem dX8_rules_452 : decode cX8_rules 452 = .ok (.ireturn, 1) := dk_172 (dk_at dksX8_rules_19 9 rfl rfl)
abbrev cX8_owes : ByteArray := prog_16_method_10_code
def yX8_owes : MethodName := ⟨RX8, "owes", "(II)I"⟩
def dkwX8_owes_5 : List UInt8 := [180, 0, 13, 27, 46, 96, 167, 0, 4, 3, 172, 21, 5, 172]
abbrev dktX8_owes_5 : List UInt8 := dkwX8_owes_5 ++ []
def dkwX8_owes_4 : List UInt8 := [21, 5, 5, 108, 172, 3, 172, 21, 5, 5, 108, 5, 96, 172, 21, 5, 158, 0, 15, 21, 5, 42]
abbrev dktX8_owes_4 : List UInt8 := dkwX8_owes_4 ++ dktX8_owes_5
def dkwX8_owes_3 : List UInt8 := [170, 0, 0, 0, 0, 63, 0, 0, 0, 2, 0, 0, 0, 5, 0, 0, 0, 30, 0, 0, 0, 35, 0, 0, 0, 37, 0, 0, 0, 44]
abbrev dktX8_owes_3 : List UInt8 := dkwX8_owes_3 ++ dktX8_owes_4
def dkwX8_owes_2 : List UInt8 := [96, 16, 15, 108, 29, 104, 54, 5, 42, 180, 0, 7, 27, 46]
abbrev dktX8_owes_2 : List UInt8 := dkwX8_owes_2 ++ dktX8_owes_3
def dkwX8_owes_1 : List UInt8 := [28, 42, 180, 0, 19, 27, 46, 100, 42, 180, 0, 22, 27, 46, 100, 184, 0, 122, 54, 4, 21, 4, 16, 14]
abbrev dktX8_owes_1 : List UInt8 := dkwX8_owes_1 ++ dktX8_owes_2
def dkwX8_owes_0 : List UInt8 := [3, 16, 99, 42, 3, 27, 42, 180, 0, 16, 27, 46, 28, 182, 0, 132, 184, 0, 136, 184, 0, 122, 62, 3]
abbrev dktX8_owes_0 : List UInt8 := dkwX8_owes_0 ++ dktX8_owes_1
theorem dksX8_owes_0 : cX8_owes.data.toList.drop 0 = dktX8_owes_0 := by decide +kernel
theorem dksX8_owes_1 : cX8_owes.data.toList.drop 24 = dktX8_owes_1 := dk_seg dksX8_owes_0 24 rfl rfl
theorem dksX8_owes_2 : cX8_owes.data.toList.drop 48 = dktX8_owes_2 := dk_seg dksX8_owes_1 24 rfl rfl
theorem dksX8_owes_3 : cX8_owes.data.toList.drop 62 = dktX8_owes_3 := dk_seg dksX8_owes_2 14 rfl rfl
theorem dksX8_owes_4 : cX8_owes.data.toList.drop 92 = dktX8_owes_4 := dk_seg dksX8_owes_3 30 rfl rfl
theorem dksX8_owes_5 : cX8_owes.data.toList.drop 114 = dktX8_owes_5 := dk_seg dksX8_owes_4 22 rfl rfl
theorem dX8_owes_0 : decode cX8_owes 0 = .ok (.iconst 0, 1) := dk_3 (dk_at dksX8_owes_0 0 rfl rfl)
theorem dX8_owes_1 : decode cX8_owes 1 = .ok (.bipush 99, 2) := dk_16 99 (dk_at dksX8_owes_0 1 rfl rfl)
theorem dX8_owes_3 : decode cX8_owes 3 = .ok (.aload_n 0, 1) := dk_42 (dk_at dksX8_owes_0 3 rfl rfl)
theorem dX8_owes_4 : decode cX8_owes 4 = .ok (.iconst 0, 1) := dk_3 (dk_at dksX8_owes_0 4 rfl rfl)
theorem dX8_owes_5 : decode cX8_owes 5 = .ok (.iload_n 1, 1) := dk_27 (dk_at dksX8_owes_0 5 rfl rfl)
theorem dX8_owes_6 : decode cX8_owes 6 = .ok (.aload_n 0, 1) := dk_42 (dk_at dksX8_owes_0 6 rfl rfl)
theorem dX8_owes_7 : decode cX8_owes 7 = .ok (.getfield 16, 3) := dk_180 0 16 (dk_at dksX8_owes_0 7 rfl rfl)
theorem dX8_owes_10 : decode cX8_owes 10 = .ok (.iload_n 1, 1) := dk_27 (dk_at dksX8_owes_0 10 rfl rfl)
theorem dX8_owes_11 : decode cX8_owes 11 = .ok (.iaload, 1) := dk_46 (dk_at dksX8_owes_0 11 rfl rfl)
theorem dX8_owes_12 : decode cX8_owes 12 = .ok (.iload_n 2, 1) := dk_28 (dk_at dksX8_owes_0 12 rfl rfl)
theorem dX8_owes_13 : decode cX8_owes 13 = .ok (.invokevirtual 132, 3) := dk_182 0 132 (dk_at dksX8_owes_0 13 rfl rfl)
theorem dX8_owes_16 : decode cX8_owes 16 = .ok (.invokestatic 136, 3) := dk_184 0 136 (dk_at dksX8_owes_0 16 rfl rfl)
theorem dX8_owes_19 : decode cX8_owes 19 = .ok (.invokestatic 122, 3) := dk_184 0 122 (dk_at dksX8_owes_0 19 rfl rfl)
theorem dX8_owes_22 : decode cX8_owes 22 = .ok (.istore_n 3, 1) := dk_62 (dk_at dksX8_owes_0 22 rfl rfl)
theorem dX8_owes_23 : decode cX8_owes 23 = .ok (.iconst 0, 1) := dk_3 (dk_at dksX8_owes_0 23 rfl rfl)
theorem dX8_owes_24 : decode cX8_owes 24 = .ok (.iload_n 2, 1) := dk_28 (dk_at dksX8_owes_1 0 rfl rfl)
theorem dX8_owes_25 : decode cX8_owes 25 = .ok (.aload_n 0, 1) := dk_42 (dk_at dksX8_owes_1 1 rfl rfl)
theorem dX8_owes_26 : decode cX8_owes 26 = .ok (.getfield 19, 3) := dk_180 0 19 (dk_at dksX8_owes_1 2 rfl rfl)
theorem dX8_owes_29 : decode cX8_owes 29 = .ok (.iload_n 1, 1) := dk_27 (dk_at dksX8_owes_1 5 rfl rfl)
theorem dX8_owes_30 : decode cX8_owes 30 = .ok (.iaload, 1) := dk_46 (dk_at dksX8_owes_1 6 rfl rfl)
theorem dX8_owes_31 : decode cX8_owes 31 = .ok (.isub, 1) := dk_100 (dk_at dksX8_owes_1 7 rfl rfl)
theorem dX8_owes_32 : decode cX8_owes 32 = .ok (.aload_n 0, 1) := dk_42 (dk_at dksX8_owes_1 8 rfl rfl)
theorem dX8_owes_33 : decode cX8_owes 33 = .ok (.getfield 22, 3) := dk_180 0 22 (dk_at dksX8_owes_1 9 rfl rfl)
theorem dX8_owes_36 : decode cX8_owes 36 = .ok (.iload_n 1, 1) := dk_27 (dk_at dksX8_owes_1 12 rfl rfl)
theorem dX8_owes_37 : decode cX8_owes 37 = .ok (.iaload, 1) := dk_46 (dk_at dksX8_owes_1 13 rfl rfl)
theorem dX8_owes_38 : decode cX8_owes 38 = .ok (.isub, 1) := dk_100 (dk_at dksX8_owes_1 14 rfl rfl)
theorem dX8_owes_39 : decode cX8_owes 39 = .ok (.invokestatic 122, 3) := dk_184 0 122 (dk_at dksX8_owes_1 15 rfl rfl)
theorem dX8_owes_42 : decode cX8_owes 42 = .ok (.istore 4, 2) := dk_54 4 (dk_at dksX8_owes_1 18 rfl rfl)
theorem dX8_owes_44 : decode cX8_owes 44 = .ok (.iload 4, 2) := dk_21 4 (dk_at dksX8_owes_1 20 rfl rfl)
theorem dX8_owes_46 : decode cX8_owes 46 = .ok (.bipush 14, 2) := dk_16 14 (dk_at dksX8_owes_1 22 rfl rfl)
theorem dX8_owes_48 : decode cX8_owes 48 = .ok (.iadd, 1) := dk_96 (dk_at dksX8_owes_2 0 rfl rfl)
theorem dX8_owes_49 : decode cX8_owes 49 = .ok (.bipush 15, 2) := dk_16 15 (dk_at dksX8_owes_2 1 rfl rfl)
theorem dX8_owes_51 : decode cX8_owes 51 = .ok (.idiv, 1) := dk_108 (dk_at dksX8_owes_2 3 rfl rfl)
theorem dX8_owes_52 : decode cX8_owes 52 = .ok (.iload_n 3, 1) := dk_29 (dk_at dksX8_owes_2 4 rfl rfl)
theorem dX8_owes_53 : decode cX8_owes 53 = .ok (.imul, 1) := dk_104 (dk_at dksX8_owes_2 5 rfl rfl)
theorem dX8_owes_54 : decode cX8_owes 54 = .ok (.istore 5, 2) := dk_54 5 (dk_at dksX8_owes_2 6 rfl rfl)
theorem dX8_owes_56 : decode cX8_owes 56 = .ok (.aload_n 0, 1) := dk_42 (dk_at dksX8_owes_2 8 rfl rfl)
theorem dX8_owes_57 : decode cX8_owes 57 = .ok (.getfield 7, 3) := dk_180 0 7 (dk_at dksX8_owes_2 9 rfl rfl)
theorem dX8_owes_60 : decode cX8_owes 60 = .ok (.iload_n 1, 1) := dk_27 (dk_at dksX8_owes_2 12 rfl rfl)
theorem dX8_owes_61 : decode cX8_owes 61 = .ok (.iaload, 1) := dk_46 (dk_at dksX8_owes_2 13 rfl rfl)
theorem dX8_owes_62 : decode cX8_owes 62 = .ok (.tableswitch 63 2 5 #[30, 35, 37, 44], 30) := by decide +kernel
theorem dX8_owes_92 : decode cX8_owes 92 = .ok (.iload 5, 2) := dk_21 5 (dk_at dksX8_owes_4 0 rfl rfl)
theorem dX8_owes_94 : decode cX8_owes 94 = .ok (.iconst 2, 1) := dk_5 (dk_at dksX8_owes_4 2 rfl rfl)
theorem dX8_owes_95 : decode cX8_owes 95 = .ok (.idiv, 1) := dk_108 (dk_at dksX8_owes_4 3 rfl rfl)
theorem dX8_owes_96 : decode cX8_owes 96 = .ok (.ireturn, 1) := dk_172 (dk_at dksX8_owes_4 4 rfl rfl)
theorem dX8_owes_97 : decode cX8_owes 97 = .ok (.iconst 0, 1) := dk_3 (dk_at dksX8_owes_4 5 rfl rfl)
theorem dX8_owes_98 : decode cX8_owes 98 = .ok (.ireturn, 1) := dk_172 (dk_at dksX8_owes_4 6 rfl rfl)
theorem dX8_owes_99 : decode cX8_owes 99 = .ok (.iload 5, 2) := dk_21 5 (dk_at dksX8_owes_4 7 rfl rfl)
theorem dX8_owes_101 : decode cX8_owes 101 = .ok (.iconst 2, 1) := dk_5 (dk_at dksX8_owes_4 9 rfl rfl)
theorem dX8_owes_102 : decode cX8_owes 102 = .ok (.idiv, 1) := dk_108 (dk_at dksX8_owes_4 10 rfl rfl)
theorem dX8_owes_103 : decode cX8_owes 103 = .ok (.iconst 2, 1) := dk_5 (dk_at dksX8_owes_4 11 rfl rfl)
theorem dX8_owes_104 : decode cX8_owes 104 = .ok (.iadd, 1) := dk_96 (dk_at dksX8_owes_4 12 rfl rfl)
theorem dX8_owes_105 : decode cX8_owes 105 = .ok (.ireturn, 1) := dk_172 (dk_at dksX8_owes_4 13 rfl rfl)
theorem dX8_owes_106 : decode cX8_owes 106 = .ok (.iload 5, 2) := dk_21 5 (dk_at dksX8_owes_4 14 rfl rfl)
theorem dX8_owes_108 : decode cX8_owes 108 = .ok (.ifCond .le 15, 3) := dk_158 0 15 (dk_at dksX8_owes_4 16 rfl rfl)
theorem dX8_owes_111 : decode cX8_owes 111 = .ok (.iload 5, 2) := dk_21 5 (dk_at dksX8_owes_4 19 rfl rfl)
theorem dX8_owes_113 : decode cX8_owes 113 = .ok (.aload_n 0, 1) := dk_42 (dk_at dksX8_owes_4 21 rfl rfl)
theorem dX8_owes_114 : decode cX8_owes 114 = .ok (.getfield 13, 3) := dk_180 0 13 (dk_at dksX8_owes_5 0 rfl rfl)
theorem dX8_owes_117 : decode cX8_owes 117 = .ok (.iload_n 1, 1) := dk_27 (dk_at dksX8_owes_5 3 rfl rfl)
theorem dX8_owes_118 : decode cX8_owes 118 = .ok (.iaload, 1) := dk_46 (dk_at dksX8_owes_5 4 rfl rfl)
theorem dX8_owes_119 : decode cX8_owes 119 = .ok (.iadd, 1) := dk_96 (dk_at dksX8_owes_5 5 rfl rfl)
theorem dX8_owes_120 : decode cX8_owes 120 = .ok (.goto 4, 3) := dk_167 0 4 (dk_at dksX8_owes_5 6 rfl rfl)
theorem dX8_owes_123 : decode cX8_owes 123 = .ok (.iconst 0, 1) := dk_3 (dk_at dksX8_owes_5 9 rfl rfl)
theorem dX8_owes_124 : decode cX8_owes 124 = .ok (.ireturn, 1) := dk_172 (dk_at dksX8_owes_5 10 rfl rfl)
theorem dX8_owes_125 : decode cX8_owes 125 = .ok (.iload 5, 2) := dk_21 5 (dk_at dksX8_owes_5 11 rfl rfl)
theorem dX8_owes_127 : decode cX8_owes 127 = .ok (.ireturn, 1) := dk_172 (dk_at dksX8_owes_5 13 rfl rfl)
abbrev cX8_force : ByteArray := prog_16_method_31_code
def yX8_force : MethodName := ⟨RX8, "force", "(I)I"⟩
def dkwX8_force_1 : List UInt8 := [181, 0, 129, 28, 172]
abbrev dktX8_force_1 : List UInt8 := dkwX8_force_1 ++ []
def dkwX8_force_0 : List UInt8 := [27, 3, 42, 180, 0, 190, 4, 100, 184, 0, 102, 154, 0, 6, 16, 254, 172, 42, 180, 0, 129, 61, 42, 27]
abbrev dktX8_force_0 : List UInt8 := dkwX8_force_0 ++ dktX8_force_1
theorem dksX8_force_0 : cX8_force.data.toList.drop 0 = dktX8_force_0 := by decide +kernel
theorem dksX8_force_1 : cX8_force.data.toList.drop 24 = dktX8_force_1 := dk_seg dksX8_force_0 24 rfl rfl
theorem dX8_force_0 : decode cX8_force 0 = .ok (.iload_n 1, 1) := dk_27 (dk_at dksX8_force_0 0 rfl rfl)
theorem dX8_force_1 : decode cX8_force 1 = .ok (.iconst 0, 1) := dk_3 (dk_at dksX8_force_0 1 rfl rfl)
theorem dX8_force_2 : decode cX8_force 2 = .ok (.aload_n 0, 1) := dk_42 (dk_at dksX8_force_0 2 rfl rfl)
theorem dX8_force_3 : decode cX8_force 3 = .ok (.getfield 190, 3) := dk_180 0 190 (dk_at dksX8_force_0 3 rfl rfl)
theorem dX8_force_6 : decode cX8_force 6 = .ok (.iconst 1, 1) := dk_4 (dk_at dksX8_force_0 6 rfl rfl)
theorem dX8_force_7 : decode cX8_force 7 = .ok (.isub, 1) := dk_100 (dk_at dksX8_force_0 7 rfl rfl)
theorem dX8_force_8 : decode cX8_force 8 = .ok (.invokestatic 102, 3) := dk_184 0 102 (dk_at dksX8_force_0 8 rfl rfl)
theorem dX8_force_11 : decode cX8_force 11 = .ok (.ifCond .ne 6, 3) := dk_154 0 6 (dk_at dksX8_force_0 11 rfl rfl)
theorem dX8_force_14 : decode cX8_force 14 = .ok (.bipush (-2), 2) := dk_16 254 (dk_at dksX8_force_0 14 rfl rfl)
theorem dX8_force_16 : decode cX8_force 16 = .ok (.ireturn, 1) := dk_172 (dk_at dksX8_force_0 16 rfl rfl)
theorem dX8_force_17 : decode cX8_force 17 = .ok (.aload_n 0, 1) := dk_42 (dk_at dksX8_force_0 17 rfl rfl)
theorem dX8_force_18 : decode cX8_force 18 = .ok (.getfield 129, 3) := dk_180 0 129 (dk_at dksX8_force_0 18 rfl rfl)
theorem dX8_force_21 : decode cX8_force 21 = .ok (.istore_n 2, 1) := dk_61 (dk_at dksX8_force_0 21 rfl rfl)
theorem dX8_force_22 : decode cX8_force 22 = .ok (.aload_n 0, 1) := dk_42 (dk_at dksX8_force_0 22 rfl rfl)
theorem dX8_force_23 : decode cX8_force 23 = .ok (.iload_n 1, 1) := dk_27 (dk_at dksX8_force_0 23 rfl rfl)
theorem dX8_force_24 : decode cX8_force 24 = .ok (.putfield 129, 3) := dk_181 0 129 (dk_at dksX8_force_1 0 rfl rfl)
theorem dX8_force_27 : decode cX8_force 27 = .ok (.iload_n 2, 1) := dk_28 (dk_at dksX8_force_1 3 rfl rfl)
theorem dX8_force_28 : decode cX8_force 28 = .ok (.ireturn, 1) := dk_172 (dk_at dksX8_force_1 4 rfl rfl)
abbrev cX8_call : ByteArray := prog_16_method_32_code
def yX8_call : MethodName := ⟨RX8, "call", "(I)I"⟩
def dkwX8_call_2 : List UInt8 := [180, 0, 142, 42, 27, 182, 0, 246, 96, 79, 4, 172]
abbrev dktX8_call_2 : List UInt8 := dkwX8_call_2 ++ []
def dkwX8_call_1 : List UInt8 := [27, 182, 0, 151, 154, 0, 5, 3, 172, 42, 180, 0, 25, 27, 4, 79, 42, 180, 0, 28, 27, 42]
abbrev dktX8_call_1 : List UInt8 := dkwX8_call_1 ++ dktX8_call_2
def dkwX8_call_0 : List UInt8 := [42, 27, 182, 0, 112, 154, 0, 6, 16, 254, 172, 42, 180, 0, 25, 27, 46, 153, 0, 6, 16, 253, 172, 42]
abbrev dktX8_call_0 : List UInt8 := dkwX8_call_0 ++ dktX8_call_1
theorem dksX8_call_0 : cX8_call.data.toList.drop 0 = dktX8_call_0 := by decide +kernel
theorem dksX8_call_1 : cX8_call.data.toList.drop 24 = dktX8_call_1 := dk_seg dksX8_call_0 24 rfl rfl
theorem dksX8_call_2 : cX8_call.data.toList.drop 46 = dktX8_call_2 := dk_seg dksX8_call_1 22 rfl rfl
theorem dX8_call_0 : decode cX8_call 0 = .ok (.aload_n 0, 1) := dk_42 (dk_at dksX8_call_0 0 rfl rfl)
theorem dX8_call_1 : decode cX8_call 1 = .ok (.iload_n 1, 1) := dk_27 (dk_at dksX8_call_0 1 rfl rfl)
theorem dX8_call_2 : decode cX8_call 2 = .ok (.invokevirtual 112, 3) := dk_182 0 112 (dk_at dksX8_call_0 2 rfl rfl)
theorem dX8_call_5 : decode cX8_call 5 = .ok (.ifCond .ne 6, 3) := dk_154 0 6 (dk_at dksX8_call_0 5 rfl rfl)
theorem dX8_call_8 : decode cX8_call 8 = .ok (.bipush (-2), 2) := dk_16 254 (dk_at dksX8_call_0 8 rfl rfl)
theorem dX8_call_10 : decode cX8_call 10 = .ok (.ireturn, 1) := dk_172 (dk_at dksX8_call_0 10 rfl rfl)
theorem dX8_call_11 : decode cX8_call 11 = .ok (.aload_n 0, 1) := dk_42 (dk_at dksX8_call_0 11 rfl rfl)
theorem dX8_call_12 : decode cX8_call 12 = .ok (.getfield 25, 3) := dk_180 0 25 (dk_at dksX8_call_0 12 rfl rfl)
theorem dX8_call_15 : decode cX8_call 15 = .ok (.iload_n 1, 1) := dk_27 (dk_at dksX8_call_0 15 rfl rfl)
theorem dX8_call_16 : decode cX8_call 16 = .ok (.iaload, 1) := dk_46 (dk_at dksX8_call_0 16 rfl rfl)
theorem dX8_call_17 : decode cX8_call 17 = .ok (.ifCond .eq 6, 3) := dk_153 0 6 (dk_at dksX8_call_0 17 rfl rfl)
theorem dX8_call_20 : decode cX8_call 20 = .ok (.bipush (-3), 2) := dk_16 253 (dk_at dksX8_call_0 20 rfl rfl)
theorem dX8_call_22 : decode cX8_call 22 = .ok (.ireturn, 1) := dk_172 (dk_at dksX8_call_0 22 rfl rfl)
theorem dX8_call_23 : decode cX8_call 23 = .ok (.aload_n 0, 1) := dk_42 (dk_at dksX8_call_0 23 rfl rfl)
theorem dX8_call_24 : decode cX8_call 24 = .ok (.iload_n 1, 1) := dk_27 (dk_at dksX8_call_1 0 rfl rfl)
theorem dX8_call_25 : decode cX8_call 25 = .ok (.invokevirtual 151, 3) := dk_182 0 151 (dk_at dksX8_call_1 1 rfl rfl)
theorem dX8_call_28 : decode cX8_call 28 = .ok (.ifCond .ne 5, 3) := dk_154 0 5 (dk_at dksX8_call_1 4 rfl rfl)
theorem dX8_call_31 : decode cX8_call 31 = .ok (.iconst 0, 1) := dk_3 (dk_at dksX8_call_1 7 rfl rfl)
theorem dX8_call_32 : decode cX8_call 32 = .ok (.ireturn, 1) := dk_172 (dk_at dksX8_call_1 8 rfl rfl)
theorem dX8_call_33 : decode cX8_call 33 = .ok (.aload_n 0, 1) := dk_42 (dk_at dksX8_call_1 9 rfl rfl)
theorem dX8_call_34 : decode cX8_call 34 = .ok (.getfield 25, 3) := dk_180 0 25 (dk_at dksX8_call_1 10 rfl rfl)
theorem dX8_call_37 : decode cX8_call 37 = .ok (.iload_n 1, 1) := dk_27 (dk_at dksX8_call_1 13 rfl rfl)
theorem dX8_call_38 : decode cX8_call 38 = .ok (.iconst 1, 1) := dk_4 (dk_at dksX8_call_1 14 rfl rfl)
theorem dX8_call_39 : decode cX8_call 39 = .ok (.iastore, 1) := dk_79 (dk_at dksX8_call_1 15 rfl rfl)
theorem dX8_call_40 : decode cX8_call 40 = .ok (.aload_n 0, 1) := dk_42 (dk_at dksX8_call_1 16 rfl rfl)
theorem dX8_call_41 : decode cX8_call 41 = .ok (.getfield 28, 3) := dk_180 0 28 (dk_at dksX8_call_1 17 rfl rfl)
theorem dX8_call_44 : decode cX8_call 44 = .ok (.iload_n 1, 1) := dk_27 (dk_at dksX8_call_1 20 rfl rfl)
theorem dX8_call_45 : decode cX8_call 45 = .ok (.aload_n 0, 1) := dk_42 (dk_at dksX8_call_1 21 rfl rfl)
theorem dX8_call_46 : decode cX8_call 46 = .ok (.getfield 142, 3) := dk_180 0 142 (dk_at dksX8_call_2 0 rfl rfl)
theorem dX8_call_49 : decode cX8_call 49 = .ok (.aload_n 0, 1) := dk_42 (dk_at dksX8_call_2 3 rfl rfl)
theorem dX8_call_50 : decode cX8_call 50 = .ok (.iload_n 1, 1) := dk_27 (dk_at dksX8_call_2 4 rfl rfl)
theorem dX8_call_51 : decode cX8_call 51 = .ok (.invokevirtual 246, 3) := dk_182 0 246 (dk_at dksX8_call_2 5 rfl rfl)
theorem dX8_call_54 : decode cX8_call 54 = .ok (.iadd, 1) := dk_96 (dk_at dksX8_call_2 8 rfl rfl)
theorem dX8_call_55 : decode cX8_call 55 = .ok (.iastore, 1) := dk_79 (dk_at dksX8_call_2 9 rfl rfl)
theorem dX8_call_56 : decode cX8_call 56 = .ok (.iconst 1, 1) := dk_4 (dk_at dksX8_call_2 10 rfl rfl)
theorem dX8_call_57 : decode cX8_call 57 = .ok (.ireturn, 1) := dk_172 (dk_at dksX8_call_2 11 rfl rfl)
abbrev cX8_needs : ByteArray := prog_16_method_13_code
def yX8_needs : MethodName := ⟨RX8, "needs", "(I)I"⟩
def dkwX8_needs_0 : List UInt8 := [42, 180, 0, 16, 27, 46, 3, 184, 0, 126, 42, 27, 182, 0, 148, 104, 172]
abbrev dktX8_needs_0 : List UInt8 := dkwX8_needs_0 ++ []
theorem dksX8_needs_0 : cX8_needs.data.toList.drop 0 = dktX8_needs_0 := by decide +kernel
theorem dX8_needs_0 : decode cX8_needs 0 = .ok (.aload_n 0, 1) := dk_42 (dk_at dksX8_needs_0 0 rfl rfl)
theorem dX8_needs_1 : decode cX8_needs 1 = .ok (.getfield 16, 3) := dk_180 0 16 (dk_at dksX8_needs_0 1 rfl rfl)
theorem dX8_needs_4 : decode cX8_needs 4 = .ok (.iload_n 1, 1) := dk_27 (dk_at dksX8_needs_0 4 rfl rfl)
theorem dX8_needs_5 : decode cX8_needs 5 = .ok (.iaload, 1) := dk_46 (dk_at dksX8_needs_0 5 rfl rfl)
theorem dX8_needs_6 : decode cX8_needs 6 = .ok (.iconst 0, 1) := dk_3 (dk_at dksX8_needs_0 6 rfl rfl)
theorem dX8_needs_7 : decode cX8_needs 7 = .ok (.invokestatic 126, 3) := dk_184 0 126 (dk_at dksX8_needs_0 7 rfl rfl)
theorem dX8_needs_10 : decode cX8_needs 10 = .ok (.aload_n 0, 1) := dk_42 (dk_at dksX8_needs_0 10 rfl rfl)
theorem dX8_needs_11 : decode cX8_needs 11 = .ok (.iload_n 1, 1) := dk_27 (dk_at dksX8_needs_0 11 rfl rfl)
theorem dX8_needs_12 : decode cX8_needs 12 = .ok (.invokevirtual 148, 3) := dk_182 0 148 (dk_at dksX8_needs_0 12 rfl rfl)
theorem dX8_needs_15 : decode cX8_needs 15 = .ok (.imul, 1) := dk_104 (dk_at dksX8_needs_0 15 rfl rfl)
theorem dX8_needs_16 : decode cX8_needs 16 = .ok (.ireturn, 1) := dk_172 (dk_at dksX8_needs_0 16 rfl rfl)
abbrev cX8_time : ByteArray := prog_16_method_35_code
def yX8_time : MethodName := ⟨RX8, "time", "(I)I"⟩
def dkwX8_time_0 : List UInt8 := [27, 3, 17, 0, 240, 184, 0, 102, 153, 0, 11, 42, 27, 182, 1, 0, 167, 0, 5, 16, 254, 172]
abbrev dktX8_time_0 : List UInt8 := dkwX8_time_0 ++ []
theorem dksX8_time_0 : cX8_time.data.toList.drop 0 = dktX8_time_0 := by decide +kernel
theorem dX8_time_0 : decode cX8_time 0 = .ok (.iload_n 1, 1) := dk_27 (dk_at dksX8_time_0 0 rfl rfl)
theorem dX8_time_1 : decode cX8_time 1 = .ok (.iconst 0, 1) := dk_3 (dk_at dksX8_time_0 1 rfl rfl)
theorem dX8_time_2 : decode cX8_time 2 = .ok (.sipush 240, 3) := dk_17 0 240 (dk_at dksX8_time_0 2 rfl rfl)
theorem dX8_time_5 : decode cX8_time 5 = .ok (.invokestatic 102, 3) := dk_184 0 102 (dk_at dksX8_time_0 5 rfl rfl)
theorem dX8_time_8 : decode cX8_time 8 = .ok (.ifCond .eq 11, 3) := dk_153 0 11 (dk_at dksX8_time_0 8 rfl rfl)
theorem dX8_time_11 : decode cX8_time 11 = .ok (.aload_n 0, 1) := dk_42 (dk_at dksX8_time_0 11 rfl rfl)
theorem dX8_time_12 : decode cX8_time 12 = .ok (.iload_n 1, 1) := dk_27 (dk_at dksX8_time_0 12 rfl rfl)
theorem dX8_time_13 : decode cX8_time 13 = .ok (.invokevirtual 256, 3) := dk_182 1 0 (dk_at dksX8_time_0 13 rfl rfl)
theorem dX8_time_16 : decode cX8_time 16 = .ok (.goto 5, 3) := dk_167 0 5 (dk_at dksX8_time_0 16 rfl rfl)
theorem dX8_time_19 : decode cX8_time 19 = .ok (.bipush (-2), 2) := dk_16 254 (dk_at dksX8_time_0 19 rfl rfl)
theorem dX8_time_21 : decode cX8_time 21 = .ok (.ireturn, 1) := dk_172 (dk_at dksX8_time_0 21 rfl rfl)
abbrev cX8_passes : ByteArray := prog_16_method_34_code
def yX8_passes : MethodName := ⟨RX8, "passes", "(I)I"⟩
def dkwX8_passes_3 : List UInt8 := [132, 3, 1, 167, 255, 205, 28, 172]
abbrev dktX8_passes_3 : List UInt8 := dkwX8_passes_3 ++ []
def dkwX8_passes_2 : List UInt8 := [180, 0, 142, 164, 0, 6, 167, 0, 17, 42, 29, 42, 180, 0, 28, 29, 46, 182, 0, 252, 132, 2, 1]
abbrev dktX8_passes_2 : List UInt8 := dkwX8_passes_2 ++ dktX8_passes_3
def dkwX8_passes_1 : List UInt8 := [180, 0, 99, 162, 0, 49, 42, 180, 0, 25, 29, 46, 4, 160, 0, 33, 42, 180, 0, 28, 29, 46, 42]
abbrev dktX8_passes_1 : List UInt8 := dkwX8_passes_1 ++ dktX8_passes_2
def dkwX8_passes_0 : List UInt8 := [42, 17, 39, 15, 42, 180, 0, 142, 27, 96, 184, 0, 136, 181, 0, 142, 3, 61, 3, 62, 29, 42]
abbrev dktX8_passes_0 : List UInt8 := dkwX8_passes_0 ++ dktX8_passes_1
theorem dksX8_passes_0 : cX8_passes.data.toList.drop 0 = dktX8_passes_0 := by decide +kernel
theorem dksX8_passes_1 : cX8_passes.data.toList.drop 22 = dktX8_passes_1 := dk_seg dksX8_passes_0 22 rfl rfl
theorem dksX8_passes_2 : cX8_passes.data.toList.drop 45 = dktX8_passes_2 := dk_seg dksX8_passes_1 23 rfl rfl
theorem dksX8_passes_3 : cX8_passes.data.toList.drop 68 = dktX8_passes_3 := dk_seg dksX8_passes_2 23 rfl rfl
theorem dX8_passes_0 : decode cX8_passes 0 = .ok (.aload_n 0, 1) := dk_42 (dk_at dksX8_passes_0 0 rfl rfl)
theorem dX8_passes_1 : decode cX8_passes 1 = .ok (.sipush 9999, 3) := dk_17 39 15 (dk_at dksX8_passes_0 1 rfl rfl)
theorem dX8_passes_4 : decode cX8_passes 4 = .ok (.aload_n 0, 1) := dk_42 (dk_at dksX8_passes_0 4 rfl rfl)
theorem dX8_passes_5 : decode cX8_passes 5 = .ok (.getfield 142, 3) := dk_180 0 142 (dk_at dksX8_passes_0 5 rfl rfl)
theorem dX8_passes_8 : decode cX8_passes 8 = .ok (.iload_n 1, 1) := dk_27 (dk_at dksX8_passes_0 8 rfl rfl)
theorem dX8_passes_9 : decode cX8_passes 9 = .ok (.iadd, 1) := dk_96 (dk_at dksX8_passes_0 9 rfl rfl)
theorem dX8_passes_10 : decode cX8_passes 10 = .ok (.invokestatic 136, 3) := dk_184 0 136 (dk_at dksX8_passes_0 10 rfl rfl)
theorem dX8_passes_13 : decode cX8_passes 13 = .ok (.putfield 142, 3) := dk_181 0 142 (dk_at dksX8_passes_0 13 rfl rfl)
theorem dX8_passes_16 : decode cX8_passes 16 = .ok (.iconst 0, 1) := dk_3 (dk_at dksX8_passes_0 16 rfl rfl)
theorem dX8_passes_17 : decode cX8_passes 17 = .ok (.istore_n 2, 1) := dk_61 (dk_at dksX8_passes_0 17 rfl rfl)
theorem dX8_passes_18 : decode cX8_passes 18 = .ok (.iconst 0, 1) := dk_3 (dk_at dksX8_passes_0 18 rfl rfl)
theorem dX8_passes_19 : decode cX8_passes 19 = .ok (.istore_n 3, 1) := dk_62 (dk_at dksX8_passes_0 19 rfl rfl)
theorem dX8_passes_20 : decode cX8_passes 20 = .ok (.iload_n 3, 1) := dk_29 (dk_at dksX8_passes_0 20 rfl rfl)
theorem dX8_passes_21 : decode cX8_passes 21 = .ok (.aload_n 0, 1) := dk_42 (dk_at dksX8_passes_0 21 rfl rfl)
theorem dX8_passes_22 : decode cX8_passes 22 = .ok (.getfield 99, 3) := dk_180 0 99 (dk_at dksX8_passes_1 0 rfl rfl)
theorem dX8_passes_25 : decode cX8_passes 25 = .ok (.if_icmp .ge 49, 3) := dk_162 0 49 (dk_at dksX8_passes_1 3 rfl rfl)
theorem dX8_passes_28 : decode cX8_passes 28 = .ok (.aload_n 0, 1) := dk_42 (dk_at dksX8_passes_1 6 rfl rfl)
theorem dX8_passes_29 : decode cX8_passes 29 = .ok (.getfield 25, 3) := dk_180 0 25 (dk_at dksX8_passes_1 7 rfl rfl)
theorem dX8_passes_32 : decode cX8_passes 32 = .ok (.iload_n 3, 1) := dk_29 (dk_at dksX8_passes_1 10 rfl rfl)
theorem dX8_passes_33 : decode cX8_passes 33 = .ok (.iaload, 1) := dk_46 (dk_at dksX8_passes_1 11 rfl rfl)
theorem dX8_passes_34 : decode cX8_passes 34 = .ok (.iconst 1, 1) := dk_4 (dk_at dksX8_passes_1 12 rfl rfl)
theorem dX8_passes_35 : decode cX8_passes 35 = .ok (.if_icmp .ne 33, 3) := dk_160 0 33 (dk_at dksX8_passes_1 13 rfl rfl)
theorem dX8_passes_38 : decode cX8_passes 38 = .ok (.aload_n 0, 1) := dk_42 (dk_at dksX8_passes_1 16 rfl rfl)
theorem dX8_passes_39 : decode cX8_passes 39 = .ok (.getfield 28, 3) := dk_180 0 28 (dk_at dksX8_passes_1 17 rfl rfl)
theorem dX8_passes_42 : decode cX8_passes 42 = .ok (.iload_n 3, 1) := dk_29 (dk_at dksX8_passes_1 20 rfl rfl)
theorem dX8_passes_43 : decode cX8_passes 43 = .ok (.iaload, 1) := dk_46 (dk_at dksX8_passes_1 21 rfl rfl)
theorem dX8_passes_44 : decode cX8_passes 44 = .ok (.aload_n 0, 1) := dk_42 (dk_at dksX8_passes_1 22 rfl rfl)
theorem dX8_passes_45 : decode cX8_passes 45 = .ok (.getfield 142, 3) := dk_180 0 142 (dk_at dksX8_passes_2 0 rfl rfl)
theorem dX8_passes_48 : decode cX8_passes 48 = .ok (.if_icmp .le 6, 3) := dk_164 0 6 (dk_at dksX8_passes_2 3 rfl rfl)
theorem dX8_passes_51 : decode cX8_passes 51 = .ok (.goto 17, 3) := dk_167 0 17 (dk_at dksX8_passes_2 6 rfl rfl)
theorem dX8_passes_54 : decode cX8_passes 54 = .ok (.aload_n 0, 1) := dk_42 (dk_at dksX8_passes_2 9 rfl rfl)
theorem dX8_passes_55 : decode cX8_passes 55 = .ok (.iload_n 3, 1) := dk_29 (dk_at dksX8_passes_2 10 rfl rfl)
theorem dX8_passes_56 : decode cX8_passes 56 = .ok (.aload_n 0, 1) := dk_42 (dk_at dksX8_passes_2 11 rfl rfl)
theorem dX8_passes_57 : decode cX8_passes 57 = .ok (.getfield 28, 3) := dk_180 0 28 (dk_at dksX8_passes_2 12 rfl rfl)
theorem dX8_passes_60 : decode cX8_passes 60 = .ok (.iload_n 3, 1) := dk_29 (dk_at dksX8_passes_2 15 rfl rfl)
theorem dX8_passes_61 : decode cX8_passes 61 = .ok (.iaload, 1) := dk_46 (dk_at dksX8_passes_2 16 rfl rfl)
theorem dX8_passes_62 : decode cX8_passes 62 = .ok (.invokevirtual 252, 3) := dk_182 0 252 (dk_at dksX8_passes_2 17 rfl rfl)
theorem dX8_passes_65 : decode cX8_passes 65 = .ok (.iinc 2 1, 3) := dk_132 2 1 (dk_at dksX8_passes_2 20 rfl rfl)
theorem dX8_passes_68 : decode cX8_passes 68 = .ok (.iinc 3 1, 3) := dk_132 3 1 (dk_at dksX8_passes_3 0 rfl rfl)
theorem dX8_passes_71 : decode cX8_passes 71 = .ok (.goto (-51), 3) := dk_167 255 205 (dk_at dksX8_passes_3 3 rfl rfl)
theorem dX8_passes_74 : decode cX8_passes 74 = .ok (.iload_n 2, 1) := dk_28 (dk_at dksX8_passes_3 6 rfl rfl)
theorem dX8_passes_75 : decode cX8_passes 75 = .ok (.ireturn, 1) := dk_172 (dk_at dksX8_passes_3 7 rfl rfl)
abbrev cX8_comesIn : ByteArray := prog_16_method_33_code
def yX8_comesIn : MethodName := ⟨RX8, "comesIn", "(II)V"⟩
def dkwX8_comesIn_1 : List UInt8 := [182, 0, 153, 96, 181, 0, 249, 42, 3, 42, 180, 0, 119, 4, 100, 184, 0, 122, 181, 0, 119, 177]
abbrev dktX8_comesIn_1 : List UInt8 := dkwX8_comesIn_1 ++ []
def dkwX8_comesIn_0 : List UInt8 := [42, 180, 0, 25, 27, 5, 79, 42, 180, 0, 28, 27, 28, 79, 42, 89, 180, 0, 249, 42, 27, 28]
abbrev dktX8_comesIn_0 : List UInt8 := dkwX8_comesIn_0 ++ dktX8_comesIn_1
theorem dksX8_comesIn_0 : cX8_comesIn.data.toList.drop 0 = dktX8_comesIn_0 := by decide +kernel
theorem dksX8_comesIn_1 : cX8_comesIn.data.toList.drop 22 = dktX8_comesIn_1 := dk_seg dksX8_comesIn_0 22 rfl rfl
theorem dX8_comesIn_0 : decode cX8_comesIn 0 = .ok (.aload_n 0, 1) := dk_42 (dk_at dksX8_comesIn_0 0 rfl rfl)
theorem dX8_comesIn_1 : decode cX8_comesIn 1 = .ok (.getfield 25, 3) := dk_180 0 25 (dk_at dksX8_comesIn_0 1 rfl rfl)
theorem dX8_comesIn_4 : decode cX8_comesIn 4 = .ok (.iload_n 1, 1) := dk_27 (dk_at dksX8_comesIn_0 4 rfl rfl)
theorem dX8_comesIn_5 : decode cX8_comesIn 5 = .ok (.iconst 2, 1) := dk_5 (dk_at dksX8_comesIn_0 5 rfl rfl)
theorem dX8_comesIn_6 : decode cX8_comesIn 6 = .ok (.iastore, 1) := dk_79 (dk_at dksX8_comesIn_0 6 rfl rfl)
theorem dX8_comesIn_7 : decode cX8_comesIn 7 = .ok (.aload_n 0, 1) := dk_42 (dk_at dksX8_comesIn_0 7 rfl rfl)
theorem dX8_comesIn_8 : decode cX8_comesIn 8 = .ok (.getfield 28, 3) := dk_180 0 28 (dk_at dksX8_comesIn_0 8 rfl rfl)
theorem dX8_comesIn_11 : decode cX8_comesIn 11 = .ok (.iload_n 1, 1) := dk_27 (dk_at dksX8_comesIn_0 11 rfl rfl)
theorem dX8_comesIn_12 : decode cX8_comesIn 12 = .ok (.iload_n 2, 1) := dk_28 (dk_at dksX8_comesIn_0 12 rfl rfl)
theorem dX8_comesIn_13 : decode cX8_comesIn 13 = .ok (.iastore, 1) := dk_79 (dk_at dksX8_comesIn_0 13 rfl rfl)
theorem dX8_comesIn_14 : decode cX8_comesIn 14 = .ok (.aload_n 0, 1) := dk_42 (dk_at dksX8_comesIn_0 14 rfl rfl)
theorem dX8_comesIn_15 : decode cX8_comesIn 15 = .ok (.dup, 1) := dk_89 (dk_at dksX8_comesIn_0 15 rfl rfl)
theorem dX8_comesIn_16 : decode cX8_comesIn 16 = .ok (.getfield 249, 3) := dk_180 0 249 (dk_at dksX8_comesIn_0 16 rfl rfl)
theorem dX8_comesIn_19 : decode cX8_comesIn 19 = .ok (.aload_n 0, 1) := dk_42 (dk_at dksX8_comesIn_0 19 rfl rfl)
theorem dX8_comesIn_20 : decode cX8_comesIn 20 = .ok (.iload_n 1, 1) := dk_27 (dk_at dksX8_comesIn_0 20 rfl rfl)
theorem dX8_comesIn_21 : decode cX8_comesIn 21 = .ok (.iload_n 2, 1) := dk_28 (dk_at dksX8_comesIn_0 21 rfl rfl)
theorem dX8_comesIn_22 : decode cX8_comesIn 22 = .ok (.invokevirtual 153, 3) := dk_182 0 153 (dk_at dksX8_comesIn_1 0 rfl rfl)
theorem dX8_comesIn_25 : decode cX8_comesIn 25 = .ok (.iadd, 1) := dk_96 (dk_at dksX8_comesIn_1 3 rfl rfl)
theorem dX8_comesIn_26 : decode cX8_comesIn 26 = .ok (.putfield 249, 3) := dk_181 0 249 (dk_at dksX8_comesIn_1 4 rfl rfl)
theorem dX8_comesIn_29 : decode cX8_comesIn 29 = .ok (.aload_n 0, 1) := dk_42 (dk_at dksX8_comesIn_1 7 rfl rfl)
theorem dX8_comesIn_30 : decode cX8_comesIn 30 = .ok (.iconst 0, 1) := dk_3 (dk_at dksX8_comesIn_1 8 rfl rfl)
theorem dX8_comesIn_31 : decode cX8_comesIn 31 = .ok (.aload_n 0, 1) := dk_42 (dk_at dksX8_comesIn_1 9 rfl rfl)
theorem dX8_comesIn_32 : decode cX8_comesIn 32 = .ok (.getfield 119, 3) := dk_180 0 119 (dk_at dksX8_comesIn_1 10 rfl rfl)
theorem dX8_comesIn_35 : decode cX8_comesIn 35 = .ok (.iconst 1, 1) := dk_4 (dk_at dksX8_comesIn_1 13 rfl rfl)
theorem dX8_comesIn_36 : decode cX8_comesIn 36 = .ok (.isub, 1) := dk_100 (dk_at dksX8_comesIn_1 14 rfl rfl)
theorem dX8_comesIn_37 : decode cX8_comesIn 37 = .ok (.invokestatic 122, 3) := dk_184 0 122 (dk_at dksX8_comesIn_1 15 rfl rfl)
theorem dX8_comesIn_40 : decode cX8_comesIn 40 = .ok (.putfield 119, 3) := dk_181 0 119 (dk_at dksX8_comesIn_1 18 rfl rfl)
theorem dX8_comesIn_43 : decode cX8_comesIn 43 = .ok (.return_, 1) := dk_177 (dk_at dksX8_comesIn_1 21 rfl rfl)
abbrev cX8_nobody : ByteArray := prog_16_method_36_code
def yX8_nobody : MethodName := ⟨RX8, "nobody", "()I"⟩
def dkwX8_nobody_1 : List UInt8 := [182, 0, 151, 154, 0, 9, 27, 4, 28, 120, 128, 60, 132, 2, 1, 167, 255, 222, 27, 172]
abbrev dktX8_nobody_1 : List UInt8 := dkwX8_nobody_1 ++ []
def dkwX8_nobody_0 : List UInt8 := [3, 60, 3, 61, 28, 42, 180, 0, 99, 162, 0, 32, 42, 180, 0, 25, 28, 46, 154, 0, 17, 42, 28]
abbrev dktX8_nobody_0 : List UInt8 := dkwX8_nobody_0 ++ dktX8_nobody_1
theorem dksX8_nobody_0 : cX8_nobody.data.toList.drop 0 = dktX8_nobody_0 := by decide +kernel
theorem dksX8_nobody_1 : cX8_nobody.data.toList.drop 23 = dktX8_nobody_1 := dk_seg dksX8_nobody_0 23 rfl rfl
theorem dX8_nobody_0 : decode cX8_nobody 0 = .ok (.iconst 0, 1) := dk_3 (dk_at dksX8_nobody_0 0 rfl rfl)
theorem dX8_nobody_1 : decode cX8_nobody 1 = .ok (.istore_n 1, 1) := dk_60 (dk_at dksX8_nobody_0 1 rfl rfl)
theorem dX8_nobody_2 : decode cX8_nobody 2 = .ok (.iconst 0, 1) := dk_3 (dk_at dksX8_nobody_0 2 rfl rfl)
theorem dX8_nobody_3 : decode cX8_nobody 3 = .ok (.istore_n 2, 1) := dk_61 (dk_at dksX8_nobody_0 3 rfl rfl)
theorem dX8_nobody_4 : decode cX8_nobody 4 = .ok (.iload_n 2, 1) := dk_28 (dk_at dksX8_nobody_0 4 rfl rfl)
theorem dX8_nobody_5 : decode cX8_nobody 5 = .ok (.aload_n 0, 1) := dk_42 (dk_at dksX8_nobody_0 5 rfl rfl)
theorem dX8_nobody_6 : decode cX8_nobody 6 = .ok (.getfield 99, 3) := dk_180 0 99 (dk_at dksX8_nobody_0 6 rfl rfl)
theorem dX8_nobody_9 : decode cX8_nobody 9 = .ok (.if_icmp .ge 32, 3) := dk_162 0 32 (dk_at dksX8_nobody_0 9 rfl rfl)
theorem dX8_nobody_12 : decode cX8_nobody 12 = .ok (.aload_n 0, 1) := dk_42 (dk_at dksX8_nobody_0 12 rfl rfl)
theorem dX8_nobody_13 : decode cX8_nobody 13 = .ok (.getfield 25, 3) := dk_180 0 25 (dk_at dksX8_nobody_0 13 rfl rfl)
theorem dX8_nobody_16 : decode cX8_nobody 16 = .ok (.iload_n 2, 1) := dk_28 (dk_at dksX8_nobody_0 16 rfl rfl)
theorem dX8_nobody_17 : decode cX8_nobody 17 = .ok (.iaload, 1) := dk_46 (dk_at dksX8_nobody_0 17 rfl rfl)
theorem dX8_nobody_18 : decode cX8_nobody 18 = .ok (.ifCond .ne 17, 3) := dk_154 0 17 (dk_at dksX8_nobody_0 18 rfl rfl)
theorem dX8_nobody_21 : decode cX8_nobody 21 = .ok (.aload_n 0, 1) := dk_42 (dk_at dksX8_nobody_0 21 rfl rfl)
theorem dX8_nobody_22 : decode cX8_nobody 22 = .ok (.iload_n 2, 1) := dk_28 (dk_at dksX8_nobody_0 22 rfl rfl)
theorem dX8_nobody_23 : decode cX8_nobody 23 = .ok (.invokevirtual 151, 3) := dk_182 0 151 (dk_at dksX8_nobody_1 0 rfl rfl)
theorem dX8_nobody_26 : decode cX8_nobody 26 = .ok (.ifCond .ne 9, 3) := dk_154 0 9 (dk_at dksX8_nobody_1 3 rfl rfl)
theorem dX8_nobody_29 : decode cX8_nobody 29 = .ok (.iload_n 1, 1) := dk_27 (dk_at dksX8_nobody_1 6 rfl rfl)
theorem dX8_nobody_30 : decode cX8_nobody 30 = .ok (.iconst 1, 1) := dk_4 (dk_at dksX8_nobody_1 7 rfl rfl)
theorem dX8_nobody_31 : decode cX8_nobody 31 = .ok (.iload_n 2, 1) := dk_28 (dk_at dksX8_nobody_1 8 rfl rfl)
theorem dX8_nobody_32 : decode cX8_nobody 32 = .ok (.ishl, 1) := dk_120 (dk_at dksX8_nobody_1 9 rfl rfl)
theorem dX8_nobody_33 : decode cX8_nobody 33 = .ok (.ior, 1) := dk_128 (dk_at dksX8_nobody_1 10 rfl rfl)
theorem dX8_nobody_34 : decode cX8_nobody 34 = .ok (.istore_n 1, 1) := dk_60 (dk_at dksX8_nobody_1 11 rfl rfl)
theorem dX8_nobody_35 : decode cX8_nobody 35 = .ok (.iinc 2 1, 3) := dk_132 2 1 (dk_at dksX8_nobody_1 12 rfl rfl)
theorem dX8_nobody_38 : decode cX8_nobody 38 = .ok (.goto (-34), 3) := dk_167 255 222 (dk_at dksX8_nobody_1 15 rfl rfl)
theorem dX8_nobody_41 : decode cX8_nobody 41 = .ok (.iload_n 1, 1) := dk_27 (dk_at dksX8_nobody_1 18 rfl rfl)
theorem dX8_nobody_42 : decode cX8_nobody 42 = .ok (.ireturn, 1) := dk_172 (dk_at dksX8_nobody_1 19 rfl rfl)
abbrev cX8_callAt : ByteArray := prog_16_method_37_code
def yX8_callAt : MethodName := ⟨RX8, "callAt", "(I)I"⟩
def dkwX8_callAt_3 : List UInt8 := [28, 96, 182, 0, 145, 153, 0, 5, 28, 172, 132, 2, 1, 167, 255, 196, 2, 172]
abbrev dktX8_callAt_3 : List UInt8 := dkwX8_callAt_3 ++ []
def dkwX8_callAt_2 : List UInt8 := [27, 46, 42, 180, 0, 22, 27, 46, 96, 161, 0, 25, 42, 27, 42, 180, 0, 16, 27, 46, 42, 180, 0, 142]
abbrev dktX8_callAt_2 : List UInt8 := dkwX8_callAt_2 ++ dktX8_callAt_3
def dkwX8_callAt_1 : List UInt8 := [61, 28, 17, 0, 241, 162, 0, 59, 42, 180, 0, 142, 28, 96, 42, 27, 182, 0, 246, 96, 42, 180, 0, 19]
abbrev dktX8_callAt_1 : List UInt8 := dkwX8_callAt_1 ++ dktX8_callAt_2
def dkwX8_callAt_0 : List UInt8 := [42, 27, 182, 0, 112, 154, 0, 6, 16, 254, 172, 42, 180, 0, 25, 27, 46, 153, 0, 6, 16, 253, 172, 3]
abbrev dktX8_callAt_0 : List UInt8 := dkwX8_callAt_0 ++ dktX8_callAt_1
theorem dksX8_callAt_0 : cX8_callAt.data.toList.drop 0 = dktX8_callAt_0 := by decide +kernel
theorem dksX8_callAt_1 : cX8_callAt.data.toList.drop 24 = dktX8_callAt_1 := dk_seg dksX8_callAt_0 24 rfl rfl
theorem dksX8_callAt_2 : cX8_callAt.data.toList.drop 48 = dktX8_callAt_2 := dk_seg dksX8_callAt_1 24 rfl rfl
theorem dksX8_callAt_3 : cX8_callAt.data.toList.drop 72 = dktX8_callAt_3 := dk_seg dksX8_callAt_2 24 rfl rfl
theorem dX8_callAt_0 : decode cX8_callAt 0 = .ok (.aload_n 0, 1) := dk_42 (dk_at dksX8_callAt_0 0 rfl rfl)
theorem dX8_callAt_1 : decode cX8_callAt 1 = .ok (.iload_n 1, 1) := dk_27 (dk_at dksX8_callAt_0 1 rfl rfl)
theorem dX8_callAt_2 : decode cX8_callAt 2 = .ok (.invokevirtual 112, 3) := dk_182 0 112 (dk_at dksX8_callAt_0 2 rfl rfl)
theorem dX8_callAt_5 : decode cX8_callAt 5 = .ok (.ifCond .ne 6, 3) := dk_154 0 6 (dk_at dksX8_callAt_0 5 rfl rfl)
theorem dX8_callAt_8 : decode cX8_callAt 8 = .ok (.bipush (-2), 2) := dk_16 254 (dk_at dksX8_callAt_0 8 rfl rfl)
theorem dX8_callAt_10 : decode cX8_callAt 10 = .ok (.ireturn, 1) := dk_172 (dk_at dksX8_callAt_0 10 rfl rfl)
theorem dX8_callAt_11 : decode cX8_callAt 11 = .ok (.aload_n 0, 1) := dk_42 (dk_at dksX8_callAt_0 11 rfl rfl)
theorem dX8_callAt_12 : decode cX8_callAt 12 = .ok (.getfield 25, 3) := dk_180 0 25 (dk_at dksX8_callAt_0 12 rfl rfl)
theorem dX8_callAt_15 : decode cX8_callAt 15 = .ok (.iload_n 1, 1) := dk_27 (dk_at dksX8_callAt_0 15 rfl rfl)
theorem dX8_callAt_16 : decode cX8_callAt 16 = .ok (.iaload, 1) := dk_46 (dk_at dksX8_callAt_0 16 rfl rfl)
theorem dX8_callAt_17 : decode cX8_callAt 17 = .ok (.ifCond .eq 6, 3) := dk_153 0 6 (dk_at dksX8_callAt_0 17 rfl rfl)
theorem dX8_callAt_20 : decode cX8_callAt 20 = .ok (.bipush (-3), 2) := dk_16 253 (dk_at dksX8_callAt_0 20 rfl rfl)
theorem dX8_callAt_22 : decode cX8_callAt 22 = .ok (.ireturn, 1) := dk_172 (dk_at dksX8_callAt_0 22 rfl rfl)
theorem dX8_callAt_23 : decode cX8_callAt 23 = .ok (.iconst 0, 1) := dk_3 (dk_at dksX8_callAt_0 23 rfl rfl)
theorem dX8_callAt_24 : decode cX8_callAt 24 = .ok (.istore_n 2, 1) := dk_61 (dk_at dksX8_callAt_1 0 rfl rfl)
theorem dX8_callAt_25 : decode cX8_callAt 25 = .ok (.iload_n 2, 1) := dk_28 (dk_at dksX8_callAt_1 1 rfl rfl)
theorem dX8_callAt_26 : decode cX8_callAt 26 = .ok (.sipush 241, 3) := dk_17 0 241 (dk_at dksX8_callAt_1 2 rfl rfl)
theorem dX8_callAt_29 : decode cX8_callAt 29 = .ok (.if_icmp .ge 59, 3) := dk_162 0 59 (dk_at dksX8_callAt_1 5 rfl rfl)
theorem dX8_callAt_32 : decode cX8_callAt 32 = .ok (.aload_n 0, 1) := dk_42 (dk_at dksX8_callAt_1 8 rfl rfl)
theorem dX8_callAt_33 : decode cX8_callAt 33 = .ok (.getfield 142, 3) := dk_180 0 142 (dk_at dksX8_callAt_1 9 rfl rfl)
theorem dX8_callAt_36 : decode cX8_callAt 36 = .ok (.iload_n 2, 1) := dk_28 (dk_at dksX8_callAt_1 12 rfl rfl)
theorem dX8_callAt_37 : decode cX8_callAt 37 = .ok (.iadd, 1) := dk_96 (dk_at dksX8_callAt_1 13 rfl rfl)
theorem dX8_callAt_38 : decode cX8_callAt 38 = .ok (.aload_n 0, 1) := dk_42 (dk_at dksX8_callAt_1 14 rfl rfl)
theorem dX8_callAt_39 : decode cX8_callAt 39 = .ok (.iload_n 1, 1) := dk_27 (dk_at dksX8_callAt_1 15 rfl rfl)
theorem dX8_callAt_40 : decode cX8_callAt 40 = .ok (.invokevirtual 246, 3) := dk_182 0 246 (dk_at dksX8_callAt_1 16 rfl rfl)
theorem dX8_callAt_43 : decode cX8_callAt 43 = .ok (.iadd, 1) := dk_96 (dk_at dksX8_callAt_1 19 rfl rfl)
theorem dX8_callAt_44 : decode cX8_callAt 44 = .ok (.aload_n 0, 1) := dk_42 (dk_at dksX8_callAt_1 20 rfl rfl)
theorem dX8_callAt_45 : decode cX8_callAt 45 = .ok (.getfield 19, 3) := dk_180 0 19 (dk_at dksX8_callAt_1 21 rfl rfl)
theorem dX8_callAt_48 : decode cX8_callAt 48 = .ok (.iload_n 1, 1) := dk_27 (dk_at dksX8_callAt_2 0 rfl rfl)
theorem dX8_callAt_49 : decode cX8_callAt 49 = .ok (.iaload, 1) := dk_46 (dk_at dksX8_callAt_2 1 rfl rfl)
theorem dX8_callAt_50 : decode cX8_callAt 50 = .ok (.aload_n 0, 1) := dk_42 (dk_at dksX8_callAt_2 2 rfl rfl)
theorem dX8_callAt_51 : decode cX8_callAt 51 = .ok (.getfield 22, 3) := dk_180 0 22 (dk_at dksX8_callAt_2 3 rfl rfl)
theorem dX8_callAt_54 : decode cX8_callAt 54 = .ok (.iload_n 1, 1) := dk_27 (dk_at dksX8_callAt_2 6 rfl rfl)
theorem dX8_callAt_55 : decode cX8_callAt 55 = .ok (.iaload, 1) := dk_46 (dk_at dksX8_callAt_2 7 rfl rfl)
theorem dX8_callAt_56 : decode cX8_callAt 56 = .ok (.iadd, 1) := dk_96 (dk_at dksX8_callAt_2 8 rfl rfl)
theorem dX8_callAt_57 : decode cX8_callAt 57 = .ok (.if_icmp .lt 25, 3) := dk_161 0 25 (dk_at dksX8_callAt_2 9 rfl rfl)
theorem dX8_callAt_60 : decode cX8_callAt 60 = .ok (.aload_n 0, 1) := dk_42 (dk_at dksX8_callAt_2 12 rfl rfl)
theorem dX8_callAt_61 : decode cX8_callAt 61 = .ok (.iload_n 1, 1) := dk_27 (dk_at dksX8_callAt_2 13 rfl rfl)
theorem dX8_callAt_62 : decode cX8_callAt 62 = .ok (.aload_n 0, 1) := dk_42 (dk_at dksX8_callAt_2 14 rfl rfl)
theorem dX8_callAt_63 : decode cX8_callAt 63 = .ok (.getfield 16, 3) := dk_180 0 16 (dk_at dksX8_callAt_2 15 rfl rfl)
theorem dX8_callAt_66 : decode cX8_callAt 66 = .ok (.iload_n 1, 1) := dk_27 (dk_at dksX8_callAt_2 18 rfl rfl)
theorem dX8_callAt_67 : decode cX8_callAt 67 = .ok (.iaload, 1) := dk_46 (dk_at dksX8_callAt_2 19 rfl rfl)
theorem dX8_callAt_68 : decode cX8_callAt 68 = .ok (.aload_n 0, 1) := dk_42 (dk_at dksX8_callAt_2 20 rfl rfl)
theorem dX8_callAt_69 : decode cX8_callAt 69 = .ok (.getfield 142, 3) := dk_180 0 142 (dk_at dksX8_callAt_2 21 rfl rfl)
theorem dX8_callAt_72 : decode cX8_callAt 72 = .ok (.iload_n 2, 1) := dk_28 (dk_at dksX8_callAt_3 0 rfl rfl)
theorem dX8_callAt_73 : decode cX8_callAt 73 = .ok (.iadd, 1) := dk_96 (dk_at dksX8_callAt_3 1 rfl rfl)
theorem dX8_callAt_74 : decode cX8_callAt 74 = .ok (.invokevirtual 145, 3) := dk_182 0 145 (dk_at dksX8_callAt_3 2 rfl rfl)
theorem dX8_callAt_77 : decode cX8_callAt 77 = .ok (.ifCond .eq 5, 3) := dk_153 0 5 (dk_at dksX8_callAt_3 5 rfl rfl)
theorem dX8_callAt_80 : decode cX8_callAt 80 = .ok (.iload_n 2, 1) := dk_28 (dk_at dksX8_callAt_3 8 rfl rfl)
theorem dX8_callAt_81 : decode cX8_callAt 81 = .ok (.ireturn, 1) := dk_172 (dk_at dksX8_callAt_3 9 rfl rfl)
theorem dX8_callAt_82 : decode cX8_callAt 82 = .ok (.iinc 2 1, 3) := dk_132 2 1 (dk_at dksX8_callAt_3 10 rfl rfl)
theorem dX8_callAt_85 : decode cX8_callAt 85 = .ok (.goto (-60), 3) := dk_167 255 196 (dk_at dksX8_callAt_3 13 rfl rfl)
theorem dX8_callAt_88 : decode cX8_callAt 88 = .ok (.iconst (-1), 1) := dk_2 (dk_at dksX8_callAt_3 16 rfl rfl)
theorem dX8_callAt_89 : decode cX8_callAt 89 = .ok (.ireturn, 1) := dk_172 (dk_at dksX8_callAt_3 17 rfl rfl)
abbrev cX8_allIn : ByteArray := prog_16_method_39_code
def yX8_allIn : MethodName := ⟨RX8, "allIn", "()I"⟩
def dkwX8_allIn_1 : List UInt8 := [60, 132, 2, 1, 167, 255, 235, 27, 172]
abbrev dktX8_allIn_1 : List UInt8 := dkwX8_allIn_1 ++ []
def dkwX8_allIn_0 : List UInt8 := [42, 180, 0, 142, 60, 3, 61, 28, 42, 180, 0, 99, 162, 0, 19, 27, 42, 28, 182, 1, 3, 184, 0, 122]
abbrev dktX8_allIn_0 : List UInt8 := dkwX8_allIn_0 ++ dktX8_allIn_1
theorem dksX8_allIn_0 : cX8_allIn.data.toList.drop 0 = dktX8_allIn_0 := by decide +kernel
theorem dksX8_allIn_1 : cX8_allIn.data.toList.drop 24 = dktX8_allIn_1 := dk_seg dksX8_allIn_0 24 rfl rfl
theorem dX8_allIn_0 : decode cX8_allIn 0 = .ok (.aload_n 0, 1) := dk_42 (dk_at dksX8_allIn_0 0 rfl rfl)
theorem dX8_allIn_1 : decode cX8_allIn 1 = .ok (.getfield 142, 3) := dk_180 0 142 (dk_at dksX8_allIn_0 1 rfl rfl)
theorem dX8_allIn_4 : decode cX8_allIn 4 = .ok (.istore_n 1, 1) := dk_60 (dk_at dksX8_allIn_0 4 rfl rfl)
theorem dX8_allIn_5 : decode cX8_allIn 5 = .ok (.iconst 0, 1) := dk_3 (dk_at dksX8_allIn_0 5 rfl rfl)
theorem dX8_allIn_6 : decode cX8_allIn 6 = .ok (.istore_n 2, 1) := dk_61 (dk_at dksX8_allIn_0 6 rfl rfl)
theorem dX8_allIn_7 : decode cX8_allIn 7 = .ok (.iload_n 2, 1) := dk_28 (dk_at dksX8_allIn_0 7 rfl rfl)
theorem dX8_allIn_8 : decode cX8_allIn 8 = .ok (.aload_n 0, 1) := dk_42 (dk_at dksX8_allIn_0 8 rfl rfl)
theorem dX8_allIn_9 : decode cX8_allIn 9 = .ok (.getfield 99, 3) := dk_180 0 99 (dk_at dksX8_allIn_0 9 rfl rfl)
theorem dX8_allIn_12 : decode cX8_allIn 12 = .ok (.if_icmp .ge 19, 3) := dk_162 0 19 (dk_at dksX8_allIn_0 12 rfl rfl)
theorem dX8_allIn_15 : decode cX8_allIn 15 = .ok (.iload_n 1, 1) := dk_27 (dk_at dksX8_allIn_0 15 rfl rfl)
theorem dX8_allIn_16 : decode cX8_allIn 16 = .ok (.aload_n 0, 1) := dk_42 (dk_at dksX8_allIn_0 16 rfl rfl)
theorem dX8_allIn_17 : decode cX8_allIn 17 = .ok (.iload_n 2, 1) := dk_28 (dk_at dksX8_allIn_0 17 rfl rfl)
theorem dX8_allIn_18 : decode cX8_allIn 18 = .ok (.invokevirtual 259, 3) := dk_182 1 3 (dk_at dksX8_allIn_0 18 rfl rfl)
theorem dX8_allIn_21 : decode cX8_allIn 21 = .ok (.invokestatic 122, 3) := dk_184 0 122 (dk_at dksX8_allIn_0 21 rfl rfl)
theorem dX8_allIn_24 : decode cX8_allIn 24 = .ok (.istore_n 1, 1) := dk_60 (dk_at dksX8_allIn_1 0 rfl rfl)
theorem dX8_allIn_25 : decode cX8_allIn 25 = .ok (.iinc 2 1, 3) := dk_132 2 1 (dk_at dksX8_allIn_1 1 rfl rfl)
theorem dX8_allIn_28 : decode cX8_allIn 28 = .ok (.goto (-21), 3) := dk_167 255 235 (dk_at dksX8_allIn_1 4 rfl rfl)
theorem dX8_allIn_31 : decode cX8_allIn 31 = .ok (.iload_n 1, 1) := dk_27 (dk_at dksX8_allIn_1 7 rfl rfl)
theorem dX8_allIn_32 : decode cX8_allIn 32 = .ok (.ireturn, 1) := dk_172 (dk_at dksX8_allIn_1 8 rfl rfl)
abbrev cX8_wouldBeIn : ByteArray := prog_16_method_38_code
def yX8_wouldBeIn : MethodName := ⟨RX8, "wouldBeIn", "(I)I"⟩
def dkwX8_wouldBeIn_2 : List UInt8 := [2, 172]
abbrev dktX8_wouldBeIn_2 : List UInt8 := dkwX8_wouldBeIn_2 ++ []
def dkwX8_wouldBeIn_1 : List UInt8 := [154, 0, 24, 42, 27, 182, 0, 151, 153, 0, 16, 42, 180, 0, 142, 42, 27, 182, 0, 246, 96, 167, 0, 4]
abbrev dktX8_wouldBeIn_1 : List UInt8 := dkwX8_wouldBeIn_1 ++ dktX8_wouldBeIn_2
def dkwX8_wouldBeIn_0 : List UInt8 := [42, 180, 0, 25, 27, 46, 4, 160, 0, 10, 42, 180, 0, 28, 27, 46, 172, 42, 180, 0, 25, 27, 46]
abbrev dktX8_wouldBeIn_0 : List UInt8 := dkwX8_wouldBeIn_0 ++ dktX8_wouldBeIn_1
theorem dksX8_wouldBeIn_0 : cX8_wouldBeIn.data.toList.drop 0 = dktX8_wouldBeIn_0 := by decide +kernel
theorem dksX8_wouldBeIn_1 : cX8_wouldBeIn.data.toList.drop 23 = dktX8_wouldBeIn_1 := dk_seg dksX8_wouldBeIn_0 23 rfl rfl
theorem dksX8_wouldBeIn_2 : cX8_wouldBeIn.data.toList.drop 47 = dktX8_wouldBeIn_2 := dk_seg dksX8_wouldBeIn_1 24 rfl rfl
theorem dX8_wouldBeIn_0 : decode cX8_wouldBeIn 0 = .ok (.aload_n 0, 1) := dk_42 (dk_at dksX8_wouldBeIn_0 0 rfl rfl)
theorem dX8_wouldBeIn_1 : decode cX8_wouldBeIn 1 = .ok (.getfield 25, 3) := dk_180 0 25 (dk_at dksX8_wouldBeIn_0 1 rfl rfl)
theorem dX8_wouldBeIn_4 : decode cX8_wouldBeIn 4 = .ok (.iload_n 1, 1) := dk_27 (dk_at dksX8_wouldBeIn_0 4 rfl rfl)
theorem dX8_wouldBeIn_5 : decode cX8_wouldBeIn 5 = .ok (.iaload, 1) := dk_46 (dk_at dksX8_wouldBeIn_0 5 rfl rfl)
theorem dX8_wouldBeIn_6 : decode cX8_wouldBeIn 6 = .ok (.iconst 1, 1) := dk_4 (dk_at dksX8_wouldBeIn_0 6 rfl rfl)
theorem dX8_wouldBeIn_7 : decode cX8_wouldBeIn 7 = .ok (.if_icmp .ne 10, 3) := dk_160 0 10 (dk_at dksX8_wouldBeIn_0 7 rfl rfl)
theorem dX8_wouldBeIn_10 : decode cX8_wouldBeIn 10 = .ok (.aload_n 0, 1) := dk_42 (dk_at dksX8_wouldBeIn_0 10 rfl rfl)
theorem dX8_wouldBeIn_11 : decode cX8_wouldBeIn 11 = .ok (.getfield 28, 3) := dk_180 0 28 (dk_at dksX8_wouldBeIn_0 11 rfl rfl)
theorem dX8_wouldBeIn_14 : decode cX8_wouldBeIn 14 = .ok (.iload_n 1, 1) := dk_27 (dk_at dksX8_wouldBeIn_0 14 rfl rfl)
theorem dX8_wouldBeIn_15 : decode cX8_wouldBeIn 15 = .ok (.iaload, 1) := dk_46 (dk_at dksX8_wouldBeIn_0 15 rfl rfl)
theorem dX8_wouldBeIn_16 : decode cX8_wouldBeIn 16 = .ok (.ireturn, 1) := dk_172 (dk_at dksX8_wouldBeIn_0 16 rfl rfl)
theorem dX8_wouldBeIn_17 : decode cX8_wouldBeIn 17 = .ok (.aload_n 0, 1) := dk_42 (dk_at dksX8_wouldBeIn_0 17 rfl rfl)
theorem dX8_wouldBeIn_18 : decode cX8_wouldBeIn 18 = .ok (.getfield 25, 3) := dk_180 0 25 (dk_at dksX8_wouldBeIn_0 18 rfl rfl)
theorem dX8_wouldBeIn_21 : decode cX8_wouldBeIn 21 = .ok (.iload_n 1, 1) := dk_27 (dk_at dksX8_wouldBeIn_0 21 rfl rfl)
theorem dX8_wouldBeIn_22 : decode cX8_wouldBeIn 22 = .ok (.iaload, 1) := dk_46 (dk_at dksX8_wouldBeIn_0 22 rfl rfl)
theorem dX8_wouldBeIn_23 : decode cX8_wouldBeIn 23 = .ok (.ifCond .ne 24, 3) := dk_154 0 24 (dk_at dksX8_wouldBeIn_1 0 rfl rfl)
theorem dX8_wouldBeIn_26 : decode cX8_wouldBeIn 26 = .ok (.aload_n 0, 1) := dk_42 (dk_at dksX8_wouldBeIn_1 3 rfl rfl)
theorem dX8_wouldBeIn_27 : decode cX8_wouldBeIn 27 = .ok (.iload_n 1, 1) := dk_27 (dk_at dksX8_wouldBeIn_1 4 rfl rfl)
theorem dX8_wouldBeIn_28 : decode cX8_wouldBeIn 28 = .ok (.invokevirtual 151, 3) := dk_182 0 151 (dk_at dksX8_wouldBeIn_1 5 rfl rfl)
theorem dX8_wouldBeIn_31 : decode cX8_wouldBeIn 31 = .ok (.ifCond .eq 16, 3) := dk_153 0 16 (dk_at dksX8_wouldBeIn_1 8 rfl rfl)
theorem dX8_wouldBeIn_34 : decode cX8_wouldBeIn 34 = .ok (.aload_n 0, 1) := dk_42 (dk_at dksX8_wouldBeIn_1 11 rfl rfl)
theorem dX8_wouldBeIn_35 : decode cX8_wouldBeIn 35 = .ok (.getfield 142, 3) := dk_180 0 142 (dk_at dksX8_wouldBeIn_1 12 rfl rfl)
theorem dX8_wouldBeIn_38 : decode cX8_wouldBeIn 38 = .ok (.aload_n 0, 1) := dk_42 (dk_at dksX8_wouldBeIn_1 15 rfl rfl)
theorem dX8_wouldBeIn_39 : decode cX8_wouldBeIn 39 = .ok (.iload_n 1, 1) := dk_27 (dk_at dksX8_wouldBeIn_1 16 rfl rfl)
theorem dX8_wouldBeIn_40 : decode cX8_wouldBeIn 40 = .ok (.invokevirtual 246, 3) := dk_182 0 246 (dk_at dksX8_wouldBeIn_1 17 rfl rfl)
theorem dX8_wouldBeIn_43 : decode cX8_wouldBeIn 43 = .ok (.iadd, 1) := dk_96 (dk_at dksX8_wouldBeIn_1 20 rfl rfl)
theorem dX8_wouldBeIn_44 : decode cX8_wouldBeIn 44 = .ok (.goto 4, 3) := dk_167 0 4 (dk_at dksX8_wouldBeIn_1 21 rfl rfl)
theorem dX8_wouldBeIn_47 : decode cX8_wouldBeIn 47 = .ok (.iconst (-1), 1) := dk_2 (dk_at dksX8_wouldBeIn_2 0 rfl rfl)
theorem dX8_wouldBeIn_48 : decode cX8_wouldBeIn 48 = .ok (.ireturn, 1) := dk_172 (dk_at dksX8_wouldBeIn_2 1 rfl rfl)
abbrev cX8_fetch : ByteArray := prog_16_method_43_code
def yX8_fetch : MethodName := ⟨RX8, "fetch", "(II)I"⟩
def dkwX8_fetch_2 : List UInt8 := [42, 180, 0, 49, 28, 4, 100, 46, 172]
abbrev dktX8_fetch_2 : List UInt8 := dkwX8_fetch_2 ++ []
def dkwX8_fetch_1 : List UInt8 := [182, 1, 16, 62, 28, 154, 0, 7, 29, 167, 0, 23, 28, 27, 184, 1, 19, 164, 0, 7, 2, 167, 0, 11]
abbrev dktX8_fetch_1 : List UInt8 := dkwX8_fetch_1 ++ dktX8_fetch_2
def dkwX8_fetch_0 : List UInt8 := [42, 27, 182, 1, 13, 153, 0, 13, 28, 3, 16, 7, 184, 0, 102, 154, 0, 6, 16, 254, 172, 42, 27]
abbrev dktX8_fetch_0 : List UInt8 := dkwX8_fetch_0 ++ dktX8_fetch_1
theorem dksX8_fetch_0 : cX8_fetch.data.toList.drop 0 = dktX8_fetch_0 := by decide +kernel
theorem dksX8_fetch_1 : cX8_fetch.data.toList.drop 23 = dktX8_fetch_1 := dk_seg dksX8_fetch_0 23 rfl rfl
theorem dksX8_fetch_2 : cX8_fetch.data.toList.drop 47 = dktX8_fetch_2 := dk_seg dksX8_fetch_1 24 rfl rfl
theorem dX8_fetch_0 : decode cX8_fetch 0 = .ok (.aload_n 0, 1) := dk_42 (dk_at dksX8_fetch_0 0 rfl rfl)
theorem dX8_fetch_1 : decode cX8_fetch 1 = .ok (.iload_n 1, 1) := dk_27 (dk_at dksX8_fetch_0 1 rfl rfl)
theorem dX8_fetch_2 : decode cX8_fetch 2 = .ok (.invokevirtual 269, 3) := dk_182 1 13 (dk_at dksX8_fetch_0 2 rfl rfl)
theorem dX8_fetch_5 : decode cX8_fetch 5 = .ok (.ifCond .eq 13, 3) := dk_153 0 13 (dk_at dksX8_fetch_0 5 rfl rfl)
theorem dX8_fetch_8 : decode cX8_fetch 8 = .ok (.iload_n 2, 1) := dk_28 (dk_at dksX8_fetch_0 8 rfl rfl)
theorem dX8_fetch_9 : decode cX8_fetch 9 = .ok (.iconst 0, 1) := dk_3 (dk_at dksX8_fetch_0 9 rfl rfl)
theorem dX8_fetch_10 : decode cX8_fetch 10 = .ok (.bipush 7, 2) := dk_16 7 (dk_at dksX8_fetch_0 10 rfl rfl)
theorem dX8_fetch_12 : decode cX8_fetch 12 = .ok (.invokestatic 102, 3) := dk_184 0 102 (dk_at dksX8_fetch_0 12 rfl rfl)
theorem dX8_fetch_15 : decode cX8_fetch 15 = .ok (.ifCond .ne 6, 3) := dk_154 0 6 (dk_at dksX8_fetch_0 15 rfl rfl)
theorem dX8_fetch_18 : decode cX8_fetch 18 = .ok (.bipush (-2), 2) := dk_16 254 (dk_at dksX8_fetch_0 18 rfl rfl)
theorem dX8_fetch_20 : decode cX8_fetch 20 = .ok (.ireturn, 1) := dk_172 (dk_at dksX8_fetch_0 20 rfl rfl)
theorem dX8_fetch_21 : decode cX8_fetch 21 = .ok (.aload_n 0, 1) := dk_42 (dk_at dksX8_fetch_0 21 rfl rfl)
theorem dX8_fetch_22 : decode cX8_fetch 22 = .ok (.iload_n 1, 1) := dk_27 (dk_at dksX8_fetch_0 22 rfl rfl)
theorem dX8_fetch_23 : decode cX8_fetch 23 = .ok (.invokevirtual 272, 3) := dk_182 1 16 (dk_at dksX8_fetch_1 0 rfl rfl)
theorem dX8_fetch_26 : decode cX8_fetch 26 = .ok (.istore_n 3, 1) := dk_62 (dk_at dksX8_fetch_1 3 rfl rfl)
theorem dX8_fetch_27 : decode cX8_fetch 27 = .ok (.iload_n 2, 1) := dk_28 (dk_at dksX8_fetch_1 4 rfl rfl)
theorem dX8_fetch_28 : decode cX8_fetch 28 = .ok (.ifCond .ne 7, 3) := dk_154 0 7 (dk_at dksX8_fetch_1 5 rfl rfl)
theorem dX8_fetch_31 : decode cX8_fetch 31 = .ok (.iload_n 3, 1) := dk_29 (dk_at dksX8_fetch_1 8 rfl rfl)
theorem dX8_fetch_32 : decode cX8_fetch 32 = .ok (.goto 23, 3) := dk_167 0 23 (dk_at dksX8_fetch_1 9 rfl rfl)
theorem dX8_fetch_35 : decode cX8_fetch 35 = .ok (.iload_n 2, 1) := dk_28 (dk_at dksX8_fetch_1 12 rfl rfl)
theorem dX8_fetch_36 : decode cX8_fetch 36 = .ok (.iload_n 1, 1) := dk_27 (dk_at dksX8_fetch_1 13 rfl rfl)
theorem dX8_fetch_37 : decode cX8_fetch 37 = .ok (.invokestatic 275, 3) := dk_184 1 19 (dk_at dksX8_fetch_1 14 rfl rfl)
theorem dX8_fetch_40 : decode cX8_fetch 40 = .ok (.if_icmp .le 7, 3) := dk_164 0 7 (dk_at dksX8_fetch_1 17 rfl rfl)
theorem dX8_fetch_43 : decode cX8_fetch 43 = .ok (.iconst (-1), 1) := dk_2 (dk_at dksX8_fetch_1 20 rfl rfl)
theorem dX8_fetch_44 : decode cX8_fetch 44 = .ok (.goto 11, 3) := dk_167 0 11 (dk_at dksX8_fetch_1 21 rfl rfl)
theorem dX8_fetch_47 : decode cX8_fetch 47 = .ok (.aload_n 0, 1) := dk_42 (dk_at dksX8_fetch_2 0 rfl rfl)
theorem dX8_fetch_48 : decode cX8_fetch 48 = .ok (.getfield 49, 3) := dk_180 0 49 (dk_at dksX8_fetch_2 1 rfl rfl)
theorem dX8_fetch_51 : decode cX8_fetch 51 = .ok (.iload_n 2, 1) := dk_28 (dk_at dksX8_fetch_2 4 rfl rfl)
theorem dX8_fetch_52 : decode cX8_fetch 52 = .ok (.iconst 1, 1) := dk_4 (dk_at dksX8_fetch_2 5 rfl rfl)
theorem dX8_fetch_53 : decode cX8_fetch 53 = .ok (.isub, 1) := dk_100 (dk_at dksX8_fetch_2 6 rfl rfl)
theorem dX8_fetch_54 : decode cX8_fetch 54 = .ok (.iaload, 1) := dk_46 (dk_at dksX8_fetch_2 7 rfl rfl)
theorem dX8_fetch_55 : decode cX8_fetch 55 = .ok (.ireturn, 1) := dk_172 (dk_at dksX8_fetch_2 8 rfl rfl)
abbrev cX8_onTheLake : ByteArray := prog_16_method_40_code
def yX8_onTheLake : MethodName := ⟨RX8, "onTheLake", "(I)Z"⟩
def dkwX8_onTheLake_2 : List UInt8 := [132, 2, 1, 167, 255, 225, 4, 172]
abbrev dktX8_onTheLake_2 : List UInt8 := dkwX8_onTheLake_2 ++ []
def dkwX8_onTheLake_1 : List UInt8 := [162, 0, 29, 27, 28, 122, 4, 126, 4, 160, 0, 14, 42, 180, 0, 25, 28, 46, 153, 0, 5, 3, 172]
abbrev dktX8_onTheLake_1 : List UInt8 := dkwX8_onTheLake_1 ++ dktX8_onTheLake_2
def dkwX8_onTheLake_0 : List UInt8 := [27, 155, 0, 13, 27, 4, 42, 180, 0, 99, 120, 161, 0, 5, 3, 172, 3, 61, 28, 42, 180, 0, 99]
abbrev dktX8_onTheLake_0 : List UInt8 := dkwX8_onTheLake_0 ++ dktX8_onTheLake_1
theorem dksX8_onTheLake_0 : cX8_onTheLake.data.toList.drop 0 = dktX8_onTheLake_0 := by decide +kernel
theorem dksX8_onTheLake_1 : cX8_onTheLake.data.toList.drop 23 = dktX8_onTheLake_1 := dk_seg dksX8_onTheLake_0 23 rfl rfl
theorem dksX8_onTheLake_2 : cX8_onTheLake.data.toList.drop 46 = dktX8_onTheLake_2 := dk_seg dksX8_onTheLake_1 23 rfl rfl
theorem dX8_onTheLake_0 : decode cX8_onTheLake 0 = .ok (.iload_n 1, 1) := dk_27 (dk_at dksX8_onTheLake_0 0 rfl rfl)
theorem dX8_onTheLake_1 : decode cX8_onTheLake 1 = .ok (.ifCond .lt 13, 3) := dk_155 0 13 (dk_at dksX8_onTheLake_0 1 rfl rfl)
theorem dX8_onTheLake_4 : decode cX8_onTheLake 4 = .ok (.iload_n 1, 1) := dk_27 (dk_at dksX8_onTheLake_0 4 rfl rfl)
theorem dX8_onTheLake_5 : decode cX8_onTheLake 5 = .ok (.iconst 1, 1) := dk_4 (dk_at dksX8_onTheLake_0 5 rfl rfl)
theorem dX8_onTheLake_6 : decode cX8_onTheLake 6 = .ok (.aload_n 0, 1) := dk_42 (dk_at dksX8_onTheLake_0 6 rfl rfl)
theorem dX8_onTheLake_7 : decode cX8_onTheLake 7 = .ok (.getfield 99, 3) := dk_180 0 99 (dk_at dksX8_onTheLake_0 7 rfl rfl)
theorem dX8_onTheLake_10 : decode cX8_onTheLake 10 = .ok (.ishl, 1) := dk_120 (dk_at dksX8_onTheLake_0 10 rfl rfl)
theorem dX8_onTheLake_11 : decode cX8_onTheLake 11 = .ok (.if_icmp .lt 5, 3) := dk_161 0 5 (dk_at dksX8_onTheLake_0 11 rfl rfl)
theorem dX8_onTheLake_14 : decode cX8_onTheLake 14 = .ok (.iconst 0, 1) := dk_3 (dk_at dksX8_onTheLake_0 14 rfl rfl)
theorem dX8_onTheLake_15 : decode cX8_onTheLake 15 = .ok (.ireturn, 1) := dk_172 (dk_at dksX8_onTheLake_0 15 rfl rfl)
theorem dX8_onTheLake_16 : decode cX8_onTheLake 16 = .ok (.iconst 0, 1) := dk_3 (dk_at dksX8_onTheLake_0 16 rfl rfl)
theorem dX8_onTheLake_17 : decode cX8_onTheLake 17 = .ok (.istore_n 2, 1) := dk_61 (dk_at dksX8_onTheLake_0 17 rfl rfl)
theorem dX8_onTheLake_18 : decode cX8_onTheLake 18 = .ok (.iload_n 2, 1) := dk_28 (dk_at dksX8_onTheLake_0 18 rfl rfl)
theorem dX8_onTheLake_19 : decode cX8_onTheLake 19 = .ok (.aload_n 0, 1) := dk_42 (dk_at dksX8_onTheLake_0 19 rfl rfl)
theorem dX8_onTheLake_20 : decode cX8_onTheLake 20 = .ok (.getfield 99, 3) := dk_180 0 99 (dk_at dksX8_onTheLake_0 20 rfl rfl)
theorem dX8_onTheLake_23 : decode cX8_onTheLake 23 = .ok (.if_icmp .ge 29, 3) := dk_162 0 29 (dk_at dksX8_onTheLake_1 0 rfl rfl)
theorem dX8_onTheLake_26 : decode cX8_onTheLake 26 = .ok (.iload_n 1, 1) := dk_27 (dk_at dksX8_onTheLake_1 3 rfl rfl)
theorem dX8_onTheLake_27 : decode cX8_onTheLake 27 = .ok (.iload_n 2, 1) := dk_28 (dk_at dksX8_onTheLake_1 4 rfl rfl)
theorem dX8_onTheLake_28 : decode cX8_onTheLake 28 = .ok (.ishr, 1) := dk_122 (dk_at dksX8_onTheLake_1 5 rfl rfl)
theorem dX8_onTheLake_29 : decode cX8_onTheLake 29 = .ok (.iconst 1, 1) := dk_4 (dk_at dksX8_onTheLake_1 6 rfl rfl)
theorem dX8_onTheLake_30 : decode cX8_onTheLake 30 = .ok (.iand, 1) := dk_126 (dk_at dksX8_onTheLake_1 7 rfl rfl)
theorem dX8_onTheLake_31 : decode cX8_onTheLake 31 = .ok (.iconst 1, 1) := dk_4 (dk_at dksX8_onTheLake_1 8 rfl rfl)
theorem dX8_onTheLake_32 : decode cX8_onTheLake 32 = .ok (.if_icmp .ne 14, 3) := dk_160 0 14 (dk_at dksX8_onTheLake_1 9 rfl rfl)
theorem dX8_onTheLake_35 : decode cX8_onTheLake 35 = .ok (.aload_n 0, 1) := dk_42 (dk_at dksX8_onTheLake_1 12 rfl rfl)
theorem dX8_onTheLake_36 : decode cX8_onTheLake 36 = .ok (.getfield 25, 3) := dk_180 0 25 (dk_at dksX8_onTheLake_1 13 rfl rfl)
theorem dX8_onTheLake_39 : decode cX8_onTheLake 39 = .ok (.iload_n 2, 1) := dk_28 (dk_at dksX8_onTheLake_1 16 rfl rfl)
theorem dX8_onTheLake_40 : decode cX8_onTheLake 40 = .ok (.iaload, 1) := dk_46 (dk_at dksX8_onTheLake_1 17 rfl rfl)
theorem dX8_onTheLake_41 : decode cX8_onTheLake 41 = .ok (.ifCond .eq 5, 3) := dk_153 0 5 (dk_at dksX8_onTheLake_1 18 rfl rfl)
theorem dX8_onTheLake_44 : decode cX8_onTheLake 44 = .ok (.iconst 0, 1) := dk_3 (dk_at dksX8_onTheLake_1 21 rfl rfl)
theorem dX8_onTheLake_45 : decode cX8_onTheLake 45 = .ok (.ireturn, 1) := dk_172 (dk_at dksX8_onTheLake_1 22 rfl rfl)
theorem dX8_onTheLake_46 : decode cX8_onTheLake 46 = .ok (.iinc 2 1, 3) := dk_132 2 1 (dk_at dksX8_onTheLake_2 0 rfl rfl)
theorem dX8_onTheLake_49 : decode cX8_onTheLake 49 = .ok (.goto (-31), 3) := dk_167 255 225 (dk_at dksX8_onTheLake_2 3 rfl rfl)
theorem dX8_onTheLake_52 : decode cX8_onTheLake 52 = .ok (.iconst 1, 1) := dk_4 (dk_at dksX8_onTheLake_2 6 rfl rfl)
theorem dX8_onTheLake_53 : decode cX8_onTheLake 53 = .ok (.ireturn, 1) := dk_172 (dk_at dksX8_onTheLake_2 7 rfl rfl)
abbrev cX8_fetches : ByteArray := prog_16_method_42_code
def yX8_fetches : MethodName := ⟨RX8, "fetches", "(I)I"⟩
def dkwX8_fetches_0 : List UInt8 := [42, 2, 181, 1, 6, 42, 27, 3, 3, 3, 3, 182, 1, 9, 42, 180, 1, 6, 172]
abbrev dktX8_fetches_0 : List UInt8 := dkwX8_fetches_0 ++ []
theorem dksX8_fetches_0 : cX8_fetches.data.toList.drop 0 = dktX8_fetches_0 := by decide +kernel
theorem dX8_fetches_0 : decode cX8_fetches 0 = .ok (.aload_n 0, 1) := dk_42 (dk_at dksX8_fetches_0 0 rfl rfl)
theorem dX8_fetches_1 : decode cX8_fetches 1 = .ok (.iconst (-1), 1) := dk_2 (dk_at dksX8_fetches_0 1 rfl rfl)
theorem dX8_fetches_2 : decode cX8_fetches 2 = .ok (.putfield 262, 3) := dk_181 1 6 (dk_at dksX8_fetches_0 2 rfl rfl)
theorem dX8_fetches_5 : decode cX8_fetches 5 = .ok (.aload_n 0, 1) := dk_42 (dk_at dksX8_fetches_0 5 rfl rfl)
theorem dX8_fetches_6 : decode cX8_fetches 6 = .ok (.iload_n 1, 1) := dk_27 (dk_at dksX8_fetches_0 6 rfl rfl)
theorem dX8_fetches_7 : decode cX8_fetches 7 = .ok (.iconst 0, 1) := dk_3 (dk_at dksX8_fetches_0 7 rfl rfl)
theorem dX8_fetches_8 : decode cX8_fetches 8 = .ok (.iconst 0, 1) := dk_3 (dk_at dksX8_fetches_0 8 rfl rfl)
theorem dX8_fetches_9 : decode cX8_fetches 9 = .ok (.iconst 0, 1) := dk_3 (dk_at dksX8_fetches_0 9 rfl rfl)
theorem dX8_fetches_10 : decode cX8_fetches 10 = .ok (.iconst 0, 1) := dk_3 (dk_at dksX8_fetches_0 10 rfl rfl)
theorem dX8_fetches_11 : decode cX8_fetches 11 = .ok (.invokevirtual 265, 3) := dk_182 1 9 (dk_at dksX8_fetches_0 11 rfl rfl)
theorem dX8_fetches_14 : decode cX8_fetches 14 = .ok (.aload_n 0, 1) := dk_42 (dk_at dksX8_fetches_0 14 rfl rfl)
theorem dX8_fetches_15 : decode cX8_fetches 15 = .ok (.getfield 262, 3) := dk_180 1 6 (dk_at dksX8_fetches_0 15 rfl rfl)
theorem dX8_fetches_18 : decode cX8_fetches 18 = .ok (.ireturn, 1) := dk_172 (dk_at dksX8_fetches_0 18 rfl rfl)
abbrev cX8_goes : ByteArray := prog_16_method_41_code
def yX8_goes : MethodName := ⟨RX8, "goes", "(IIIII)V"⟩
def dkwX8_goes_8 : List UInt8 := [182, 1, 9, 132, 6, 1, 167, 255, 176, 177]
abbrev dktX8_goes_8 : List UInt8 := dkwX8_goes_8 ++ []
def dkwX8_goes_7 : List UInt8 := [4, 96, 21, 5, 29, 42, 180, 0, 16, 21, 6, 46, 184, 0, 126, 42, 180, 0, 77, 21, 4, 96, 104, 96]
abbrev dktX8_goes_7 : List UInt8 := dkwX8_goes_7 ++ dktX8_goes_8
def dkwX8_goes_6 : List UInt8 := [21, 6, 79, 42, 27, 4, 21, 6, 120, 2, 130, 126, 28, 4, 96, 42, 180, 0, 16, 21, 6, 46, 21, 4]
abbrev dktX8_goes_6 : List UInt8 := dkwX8_goes_6 ++ dktX8_goes_7
def dkwX8_goes_5 : List UInt8 := [180, 0, 99, 162, 0, 77, 27, 21, 6, 122, 4, 126, 154, 0, 6, 167, 0, 59, 42, 180, 0, 46, 28]
abbrev dktX8_goes_5 : List UInt8 := dkwX8_goes_5 ++ dktX8_goes_6
def dkwX8_goes_4 : List UInt8 := [3, 184, 0, 126, 42, 180, 0, 77, 21, 4, 96, 104, 96, 182, 1, 9, 177, 3, 54, 6, 21, 6, 42]
abbrev dktX8_goes_4 : List UInt8 := dkwX8_goes_4 ++ dktX8_goes_5
def dkwX8_goes_3 : List UInt8 := [132, 7, 1, 167, 255, 233, 177, 21, 4, 42, 180, 0, 74, 160, 0, 28, 42, 27, 28, 3, 3, 21, 5, 29]
abbrev dktX8_goes_3 : List UInt8 := dkwX8_goes_3 ++ dktX8_goes_4
def dkwX8_goes_2 : List UInt8 := [54, 7, 21, 7, 28, 162, 0, 23, 42, 180, 0, 49, 21, 7, 42, 180, 0, 46, 21, 7, 46, 79]
abbrev dktX8_goes_2 : List UInt8 := dkwX8_goes_2 ++ dktX8_goes_3
def dkwX8_goes_1 : List UInt8 := [180, 1, 6, 155, 0, 13, 21, 6, 42, 180, 1, 6, 161, 0, 4, 177, 42, 21, 6, 181, 1, 6, 3]
abbrev dktX8_goes_1 : List UInt8 := dkwX8_goes_1 ++ dktX8_goes_2
def dkwX8_goes_0 : List UInt8 := [27, 154, 0, 74, 21, 5, 29, 3, 184, 0, 126, 42, 180, 0, 77, 21, 4, 96, 104, 96, 54, 6, 42]
abbrev dktX8_goes_0 : List UInt8 := dkwX8_goes_0 ++ dktX8_goes_1
theorem dksX8_goes_0 : cX8_goes.data.toList.drop 0 = dktX8_goes_0 := by decide +kernel
theorem dksX8_goes_1 : cX8_goes.data.toList.drop 23 = dktX8_goes_1 := dk_seg dksX8_goes_0 23 rfl rfl
theorem dksX8_goes_2 : cX8_goes.data.toList.drop 46 = dktX8_goes_2 := dk_seg dksX8_goes_1 23 rfl rfl
theorem dksX8_goes_3 : cX8_goes.data.toList.drop 68 = dktX8_goes_3 := dk_seg dksX8_goes_2 22 rfl rfl
theorem dksX8_goes_4 : cX8_goes.data.toList.drop 92 = dktX8_goes_4 := dk_seg dksX8_goes_3 24 rfl rfl
theorem dksX8_goes_5 : cX8_goes.data.toList.drop 115 = dktX8_goes_5 := dk_seg dksX8_goes_4 23 rfl rfl
theorem dksX8_goes_6 : cX8_goes.data.toList.drop 138 = dktX8_goes_6 := dk_seg dksX8_goes_5 23 rfl rfl
theorem dksX8_goes_7 : cX8_goes.data.toList.drop 162 = dktX8_goes_7 := dk_seg dksX8_goes_6 24 rfl rfl
theorem dksX8_goes_8 : cX8_goes.data.toList.drop 186 = dktX8_goes_8 := dk_seg dksX8_goes_7 24 rfl rfl
theorem dX8_goes_0 : decode cX8_goes 0 = .ok (.iload_n 1, 1) := dk_27 (dk_at dksX8_goes_0 0 rfl rfl)
theorem dX8_goes_1 : decode cX8_goes 1 = .ok (.ifCond .ne 74, 3) := dk_154 0 74 (dk_at dksX8_goes_0 1 rfl rfl)
theorem dX8_goes_4 : decode cX8_goes 4 = .ok (.iload 5, 2) := dk_21 5 (dk_at dksX8_goes_0 4 rfl rfl)
theorem dX8_goes_6 : decode cX8_goes 6 = .ok (.iload_n 3, 1) := dk_29 (dk_at dksX8_goes_0 6 rfl rfl)
theorem dX8_goes_7 : decode cX8_goes 7 = .ok (.iconst 0, 1) := dk_3 (dk_at dksX8_goes_0 7 rfl rfl)
theorem dX8_goes_8 : decode cX8_goes 8 = .ok (.invokestatic 126, 3) := dk_184 0 126 (dk_at dksX8_goes_0 8 rfl rfl)
theorem dX8_goes_11 : decode cX8_goes 11 = .ok (.aload_n 0, 1) := dk_42 (dk_at dksX8_goes_0 11 rfl rfl)
theorem dX8_goes_12 : decode cX8_goes 12 = .ok (.getfield 77, 3) := dk_180 0 77 (dk_at dksX8_goes_0 12 rfl rfl)
theorem dX8_goes_15 : decode cX8_goes 15 = .ok (.iload 4, 2) := dk_21 4 (dk_at dksX8_goes_0 15 rfl rfl)
theorem dX8_goes_17 : decode cX8_goes 17 = .ok (.iadd, 1) := dk_96 (dk_at dksX8_goes_0 17 rfl rfl)
theorem dX8_goes_18 : decode cX8_goes 18 = .ok (.imul, 1) := dk_104 (dk_at dksX8_goes_0 18 rfl rfl)
theorem dX8_goes_19 : decode cX8_goes 19 = .ok (.iadd, 1) := dk_96 (dk_at dksX8_goes_0 19 rfl rfl)
theorem dX8_goes_20 : decode cX8_goes 20 = .ok (.istore 6, 2) := dk_54 6 (dk_at dksX8_goes_0 20 rfl rfl)
theorem dX8_goes_22 : decode cX8_goes 22 = .ok (.aload_n 0, 1) := dk_42 (dk_at dksX8_goes_0 22 rfl rfl)
theorem dX8_goes_23 : decode cX8_goes 23 = .ok (.getfield 262, 3) := dk_180 1 6 (dk_at dksX8_goes_1 0 rfl rfl)
theorem dX8_goes_26 : decode cX8_goes 26 = .ok (.ifCond .lt 13, 3) := dk_155 0 13 (dk_at dksX8_goes_1 3 rfl rfl)
theorem dX8_goes_29 : decode cX8_goes 29 = .ok (.iload 6, 2) := dk_21 6 (dk_at dksX8_goes_1 6 rfl rfl)
theorem dX8_goes_31 : decode cX8_goes 31 = .ok (.aload_n 0, 1) := dk_42 (dk_at dksX8_goes_1 8 rfl rfl)
theorem dX8_goes_32 : decode cX8_goes 32 = .ok (.getfield 262, 3) := dk_180 1 6 (dk_at dksX8_goes_1 9 rfl rfl)
theorem dX8_goes_35 : decode cX8_goes 35 = .ok (.if_icmp .lt 4, 3) := dk_161 0 4 (dk_at dksX8_goes_1 12 rfl rfl)
theorem dX8_goes_38 : decode cX8_goes 38 = .ok (.return_, 1) := dk_177 (dk_at dksX8_goes_1 15 rfl rfl)
theorem dX8_goes_39 : decode cX8_goes 39 = .ok (.aload_n 0, 1) := dk_42 (dk_at dksX8_goes_1 16 rfl rfl)
theorem dX8_goes_40 : decode cX8_goes 40 = .ok (.iload 6, 2) := dk_21 6 (dk_at dksX8_goes_1 17 rfl rfl)
theorem dX8_goes_42 : decode cX8_goes 42 = .ok (.putfield 262, 3) := dk_181 1 6 (dk_at dksX8_goes_1 19 rfl rfl)
theorem dX8_goes_45 : decode cX8_goes 45 = .ok (.iconst 0, 1) := dk_3 (dk_at dksX8_goes_1 22 rfl rfl)
theorem dX8_goes_46 : decode cX8_goes 46 = .ok (.istore 7, 2) := dk_54 7 (dk_at dksX8_goes_2 0 rfl rfl)
theorem dX8_goes_48 : decode cX8_goes 48 = .ok (.iload 7, 2) := dk_21 7 (dk_at dksX8_goes_2 2 rfl rfl)
theorem dX8_goes_50 : decode cX8_goes 50 = .ok (.iload_n 2, 1) := dk_28 (dk_at dksX8_goes_2 4 rfl rfl)
theorem dX8_goes_51 : decode cX8_goes 51 = .ok (.if_icmp .ge 23, 3) := dk_162 0 23 (dk_at dksX8_goes_2 5 rfl rfl)
theorem dX8_goes_54 : decode cX8_goes 54 = .ok (.aload_n 0, 1) := dk_42 (dk_at dksX8_goes_2 8 rfl rfl)
theorem dX8_goes_55 : decode cX8_goes 55 = .ok (.getfield 49, 3) := dk_180 0 49 (dk_at dksX8_goes_2 9 rfl rfl)
theorem dX8_goes_58 : decode cX8_goes 58 = .ok (.iload 7, 2) := dk_21 7 (dk_at dksX8_goes_2 12 rfl rfl)
theorem dX8_goes_60 : decode cX8_goes 60 = .ok (.aload_n 0, 1) := dk_42 (dk_at dksX8_goes_2 14 rfl rfl)
theorem dX8_goes_61 : decode cX8_goes 61 = .ok (.getfield 46, 3) := dk_180 0 46 (dk_at dksX8_goes_2 15 rfl rfl)
theorem dX8_goes_64 : decode cX8_goes 64 = .ok (.iload 7, 2) := dk_21 7 (dk_at dksX8_goes_2 18 rfl rfl)
theorem dX8_goes_66 : decode cX8_goes 66 = .ok (.iaload, 1) := dk_46 (dk_at dksX8_goes_2 20 rfl rfl)
theorem dX8_goes_67 : decode cX8_goes 67 = .ok (.iastore, 1) := dk_79 (dk_at dksX8_goes_2 21 rfl rfl)
theorem dX8_goes_68 : decode cX8_goes 68 = .ok (.iinc 7 1, 3) := dk_132 7 1 (dk_at dksX8_goes_3 0 rfl rfl)
theorem dX8_goes_71 : decode cX8_goes 71 = .ok (.goto (-23), 3) := dk_167 255 233 (dk_at dksX8_goes_3 3 rfl rfl)
theorem dX8_goes_74 : decode cX8_goes 74 = .ok (.return_, 1) := dk_177 (dk_at dksX8_goes_3 6 rfl rfl)
theorem dX8_goes_75 : decode cX8_goes 75 = .ok (.iload 4, 2) := dk_21 4 (dk_at dksX8_goes_3 7 rfl rfl)
theorem dX8_goes_77 : decode cX8_goes 77 = .ok (.aload_n 0, 1) := dk_42 (dk_at dksX8_goes_3 9 rfl rfl)
theorem dX8_goes_78 : decode cX8_goes 78 = .ok (.getfield 74, 3) := dk_180 0 74 (dk_at dksX8_goes_3 10 rfl rfl)
theorem dX8_goes_81 : decode cX8_goes 81 = .ok (.if_icmp .ne 28, 3) := dk_160 0 28 (dk_at dksX8_goes_3 13 rfl rfl)
theorem dX8_goes_84 : decode cX8_goes 84 = .ok (.aload_n 0, 1) := dk_42 (dk_at dksX8_goes_3 16 rfl rfl)
theorem dX8_goes_85 : decode cX8_goes 85 = .ok (.iload_n 1, 1) := dk_27 (dk_at dksX8_goes_3 17 rfl rfl)
theorem dX8_goes_86 : decode cX8_goes 86 = .ok (.iload_n 2, 1) := dk_28 (dk_at dksX8_goes_3 18 rfl rfl)
theorem dX8_goes_87 : decode cX8_goes 87 = .ok (.iconst 0, 1) := dk_3 (dk_at dksX8_goes_3 19 rfl rfl)
theorem dX8_goes_88 : decode cX8_goes 88 = .ok (.iconst 0, 1) := dk_3 (dk_at dksX8_goes_3 20 rfl rfl)
theorem dX8_goes_89 : decode cX8_goes 89 = .ok (.iload 5, 2) := dk_21 5 (dk_at dksX8_goes_3 21 rfl rfl)
theorem dX8_goes_91 : decode cX8_goes 91 = .ok (.iload_n 3, 1) := dk_29 (dk_at dksX8_goes_3 23 rfl rfl)
theorem dX8_goes_92 : decode cX8_goes 92 = .ok (.iconst 0, 1) := dk_3 (dk_at dksX8_goes_4 0 rfl rfl)
theorem dX8_goes_93 : decode cX8_goes 93 = .ok (.invokestatic 126, 3) := dk_184 0 126 (dk_at dksX8_goes_4 1 rfl rfl)
theorem dX8_goes_96 : decode cX8_goes 96 = .ok (.aload_n 0, 1) := dk_42 (dk_at dksX8_goes_4 4 rfl rfl)
theorem dX8_goes_97 : decode cX8_goes 97 = .ok (.getfield 77, 3) := dk_180 0 77 (dk_at dksX8_goes_4 5 rfl rfl)
theorem dX8_goes_100 : decode cX8_goes 100 = .ok (.iload 4, 2) := dk_21 4 (dk_at dksX8_goes_4 8 rfl rfl)
theorem dX8_goes_102 : decode cX8_goes 102 = .ok (.iadd, 1) := dk_96 (dk_at dksX8_goes_4 10 rfl rfl)
theorem dX8_goes_103 : decode cX8_goes 103 = .ok (.imul, 1) := dk_104 (dk_at dksX8_goes_4 11 rfl rfl)
theorem dX8_goes_104 : decode cX8_goes 104 = .ok (.iadd, 1) := dk_96 (dk_at dksX8_goes_4 12 rfl rfl)
theorem dX8_goes_105 : decode cX8_goes 105 = .ok (.invokevirtual 265, 3) := dk_182 1 9 (dk_at dksX8_goes_4 13 rfl rfl)
theorem dX8_goes_108 : decode cX8_goes 108 = .ok (.return_, 1) := dk_177 (dk_at dksX8_goes_4 16 rfl rfl)
theorem dX8_goes_109 : decode cX8_goes 109 = .ok (.iconst 0, 1) := dk_3 (dk_at dksX8_goes_4 17 rfl rfl)
theorem dX8_goes_110 : decode cX8_goes 110 = .ok (.istore 6, 2) := dk_54 6 (dk_at dksX8_goes_4 18 rfl rfl)
theorem dX8_goes_112 : decode cX8_goes 112 = .ok (.iload 6, 2) := dk_21 6 (dk_at dksX8_goes_4 20 rfl rfl)
theorem dX8_goes_114 : decode cX8_goes 114 = .ok (.aload_n 0, 1) := dk_42 (dk_at dksX8_goes_4 22 rfl rfl)
theorem dX8_goes_115 : decode cX8_goes 115 = .ok (.getfield 99, 3) := dk_180 0 99 (dk_at dksX8_goes_5 0 rfl rfl)
theorem dX8_goes_118 : decode cX8_goes 118 = .ok (.if_icmp .ge 77, 3) := dk_162 0 77 (dk_at dksX8_goes_5 3 rfl rfl)
theorem dX8_goes_121 : decode cX8_goes 121 = .ok (.iload_n 1, 1) := dk_27 (dk_at dksX8_goes_5 6 rfl rfl)
theorem dX8_goes_122 : decode cX8_goes 122 = .ok (.iload 6, 2) := dk_21 6 (dk_at dksX8_goes_5 7 rfl rfl)
theorem dX8_goes_124 : decode cX8_goes 124 = .ok (.ishr, 1) := dk_122 (dk_at dksX8_goes_5 9 rfl rfl)
theorem dX8_goes_125 : decode cX8_goes 125 = .ok (.iconst 1, 1) := dk_4 (dk_at dksX8_goes_5 10 rfl rfl)
theorem dX8_goes_126 : decode cX8_goes 126 = .ok (.iand, 1) := dk_126 (dk_at dksX8_goes_5 11 rfl rfl)
theorem dX8_goes_127 : decode cX8_goes 127 = .ok (.ifCond .ne 6, 3) := dk_154 0 6 (dk_at dksX8_goes_5 12 rfl rfl)
theorem dX8_goes_130 : decode cX8_goes 130 = .ok (.goto 59, 3) := dk_167 0 59 (dk_at dksX8_goes_5 15 rfl rfl)
theorem dX8_goes_133 : decode cX8_goes 133 = .ok (.aload_n 0, 1) := dk_42 (dk_at dksX8_goes_5 18 rfl rfl)
theorem dX8_goes_134 : decode cX8_goes 134 = .ok (.getfield 46, 3) := dk_180 0 46 (dk_at dksX8_goes_5 19 rfl rfl)
theorem dX8_goes_137 : decode cX8_goes 137 = .ok (.iload_n 2, 1) := dk_28 (dk_at dksX8_goes_5 22 rfl rfl)
theorem dX8_goes_138 : decode cX8_goes 138 = .ok (.iload 6, 2) := dk_21 6 (dk_at dksX8_goes_6 0 rfl rfl)
theorem dX8_goes_140 : decode cX8_goes 140 = .ok (.iastore, 1) := dk_79 (dk_at dksX8_goes_6 2 rfl rfl)
theorem dX8_goes_141 : decode cX8_goes 141 = .ok (.aload_n 0, 1) := dk_42 (dk_at dksX8_goes_6 3 rfl rfl)
theorem dX8_goes_142 : decode cX8_goes 142 = .ok (.iload_n 1, 1) := dk_27 (dk_at dksX8_goes_6 4 rfl rfl)
theorem dX8_goes_143 : decode cX8_goes 143 = .ok (.iconst 1, 1) := dk_4 (dk_at dksX8_goes_6 5 rfl rfl)
theorem dX8_goes_144 : decode cX8_goes 144 = .ok (.iload 6, 2) := dk_21 6 (dk_at dksX8_goes_6 6 rfl rfl)
theorem dX8_goes_146 : decode cX8_goes 146 = .ok (.ishl, 1) := dk_120 (dk_at dksX8_goes_6 8 rfl rfl)
theorem dX8_goes_147 : decode cX8_goes 147 = .ok (.iconst (-1), 1) := dk_2 (dk_at dksX8_goes_6 9 rfl rfl)
theorem dX8_goes_148 : decode cX8_goes 148 = .ok (.ixor, 1) := dk_130 (dk_at dksX8_goes_6 10 rfl rfl)
theorem dX8_goes_149 : decode cX8_goes 149 = .ok (.iand, 1) := dk_126 (dk_at dksX8_goes_6 11 rfl rfl)
theorem dX8_goes_150 : decode cX8_goes 150 = .ok (.iload_n 2, 1) := dk_28 (dk_at dksX8_goes_6 12 rfl rfl)
theorem dX8_goes_151 : decode cX8_goes 151 = .ok (.iconst 1, 1) := dk_4 (dk_at dksX8_goes_6 13 rfl rfl)
theorem dX8_goes_152 : decode cX8_goes 152 = .ok (.iadd, 1) := dk_96 (dk_at dksX8_goes_6 14 rfl rfl)
theorem dX8_goes_153 : decode cX8_goes 153 = .ok (.aload_n 0, 1) := dk_42 (dk_at dksX8_goes_6 15 rfl rfl)
theorem dX8_goes_154 : decode cX8_goes 154 = .ok (.getfield 16, 3) := dk_180 0 16 (dk_at dksX8_goes_6 16 rfl rfl)
theorem dX8_goes_157 : decode cX8_goes 157 = .ok (.iload 6, 2) := dk_21 6 (dk_at dksX8_goes_6 19 rfl rfl)
theorem dX8_goes_159 : decode cX8_goes 159 = .ok (.iaload, 1) := dk_46 (dk_at dksX8_goes_6 21 rfl rfl)
theorem dX8_goes_160 : decode cX8_goes 160 = .ok (.iload 4, 2) := dk_21 4 (dk_at dksX8_goes_6 22 rfl rfl)
theorem dX8_goes_162 : decode cX8_goes 162 = .ok (.iconst 1, 1) := dk_4 (dk_at dksX8_goes_7 0 rfl rfl)
theorem dX8_goes_163 : decode cX8_goes 163 = .ok (.iadd, 1) := dk_96 (dk_at dksX8_goes_7 1 rfl rfl)
theorem dX8_goes_164 : decode cX8_goes 164 = .ok (.iload 5, 2) := dk_21 5 (dk_at dksX8_goes_7 2 rfl rfl)
theorem dX8_goes_166 : decode cX8_goes 166 = .ok (.iload_n 3, 1) := dk_29 (dk_at dksX8_goes_7 4 rfl rfl)
theorem dX8_goes_167 : decode cX8_goes 167 = .ok (.aload_n 0, 1) := dk_42 (dk_at dksX8_goes_7 5 rfl rfl)
theorem dX8_goes_168 : decode cX8_goes 168 = .ok (.getfield 16, 3) := dk_180 0 16 (dk_at dksX8_goes_7 6 rfl rfl)
theorem dX8_goes_171 : decode cX8_goes 171 = .ok (.iload 6, 2) := dk_21 6 (dk_at dksX8_goes_7 9 rfl rfl)
theorem dX8_goes_173 : decode cX8_goes 173 = .ok (.iaload, 1) := dk_46 (dk_at dksX8_goes_7 11 rfl rfl)
theorem dX8_goes_174 : decode cX8_goes 174 = .ok (.invokestatic 126, 3) := dk_184 0 126 (dk_at dksX8_goes_7 12 rfl rfl)
theorem dX8_goes_177 : decode cX8_goes 177 = .ok (.aload_n 0, 1) := dk_42 (dk_at dksX8_goes_7 15 rfl rfl)
theorem dX8_goes_178 : decode cX8_goes 178 = .ok (.getfield 77, 3) := dk_180 0 77 (dk_at dksX8_goes_7 16 rfl rfl)
theorem dX8_goes_181 : decode cX8_goes 181 = .ok (.iload 4, 2) := dk_21 4 (dk_at dksX8_goes_7 19 rfl rfl)
theorem dX8_goes_183 : decode cX8_goes 183 = .ok (.iadd, 1) := dk_96 (dk_at dksX8_goes_7 21 rfl rfl)
theorem dX8_goes_184 : decode cX8_goes 184 = .ok (.imul, 1) := dk_104 (dk_at dksX8_goes_7 22 rfl rfl)
theorem dX8_goes_185 : decode cX8_goes 185 = .ok (.iadd, 1) := dk_96 (dk_at dksX8_goes_7 23 rfl rfl)
theorem dX8_goes_186 : decode cX8_goes 186 = .ok (.invokevirtual 265, 3) := dk_182 1 9 (dk_at dksX8_goes_8 0 rfl rfl)
theorem dX8_goes_189 : decode cX8_goes 189 = .ok (.iinc 6 1, 3) := dk_132 6 1 (dk_at dksX8_goes_8 3 rfl rfl)
theorem dX8_goes_192 : decode cX8_goes 192 = .ok (.goto (-80), 3) := dk_167 255 176 (dk_at dksX8_goes_8 6 rfl rfl)
theorem dX8_goes_195 : decode cX8_goes 195 = .ok (.return_, 1) := dk_177 (dk_at dksX8_goes_8 9 rfl rfl)
abbrev cX8_launch : ByteArray := prog_16_method_44_code
def yX8_launch : MethodName := ⟨RX8, "launch", "(I)I"⟩
def dkwX8_launch_2 : List UInt8 := [182, 0, 252, 132, 3, 1, 167, 255, 227, 28, 172]
abbrev dktX8_launch_2 : List UInt8 := dkwX8_launch_2 ++ []
def dkwX8_launch_1 : List UInt8 := [62, 29, 42, 180, 0, 99, 162, 0, 27, 27, 29, 122, 4, 126, 4, 160, 0, 12, 42, 29, 42, 180, 0, 142]
abbrev dktX8_launch_1 : List UInt8 := dkwX8_launch_1 ++ dktX8_launch_2
def dkwX8_launch_0 : List UInt8 := [42, 27, 182, 1, 13, 154, 0, 6, 16, 254, 172, 42, 27, 182, 1, 16, 61, 42, 28, 182, 1, 0, 87, 3]
abbrev dktX8_launch_0 : List UInt8 := dkwX8_launch_0 ++ dktX8_launch_1
theorem dksX8_launch_0 : cX8_launch.data.toList.drop 0 = dktX8_launch_0 := by decide +kernel
theorem dksX8_launch_1 : cX8_launch.data.toList.drop 24 = dktX8_launch_1 := dk_seg dksX8_launch_0 24 rfl rfl
theorem dksX8_launch_2 : cX8_launch.data.toList.drop 48 = dktX8_launch_2 := dk_seg dksX8_launch_1 24 rfl rfl
theorem dX8_launch_0 : decode cX8_launch 0 = .ok (.aload_n 0, 1) := dk_42 (dk_at dksX8_launch_0 0 rfl rfl)
theorem dX8_launch_1 : decode cX8_launch 1 = .ok (.iload_n 1, 1) := dk_27 (dk_at dksX8_launch_0 1 rfl rfl)
theorem dX8_launch_2 : decode cX8_launch 2 = .ok (.invokevirtual 269, 3) := dk_182 1 13 (dk_at dksX8_launch_0 2 rfl rfl)
theorem dX8_launch_5 : decode cX8_launch 5 = .ok (.ifCond .ne 6, 3) := dk_154 0 6 (dk_at dksX8_launch_0 5 rfl rfl)
theorem dX8_launch_8 : decode cX8_launch 8 = .ok (.bipush (-2), 2) := dk_16 254 (dk_at dksX8_launch_0 8 rfl rfl)
theorem dX8_launch_10 : decode cX8_launch 10 = .ok (.ireturn, 1) := dk_172 (dk_at dksX8_launch_0 10 rfl rfl)
theorem dX8_launch_11 : decode cX8_launch 11 = .ok (.aload_n 0, 1) := dk_42 (dk_at dksX8_launch_0 11 rfl rfl)
theorem dX8_launch_12 : decode cX8_launch 12 = .ok (.iload_n 1, 1) := dk_27 (dk_at dksX8_launch_0 12 rfl rfl)
theorem dX8_launch_13 : decode cX8_launch 13 = .ok (.invokevirtual 272, 3) := dk_182 1 16 (dk_at dksX8_launch_0 13 rfl rfl)
theorem dX8_launch_16 : decode cX8_launch 16 = .ok (.istore_n 2, 1) := dk_61 (dk_at dksX8_launch_0 16 rfl rfl)
theorem dX8_launch_17 : decode cX8_launch 17 = .ok (.aload_n 0, 1) := dk_42 (dk_at dksX8_launch_0 17 rfl rfl)
theorem dX8_launch_18 : decode cX8_launch 18 = .ok (.iload_n 2, 1) := dk_28 (dk_at dksX8_launch_0 18 rfl rfl)
theorem dX8_launch_19 : decode cX8_launch 19 = .ok (.invokevirtual 256, 3) := dk_182 1 0 (dk_at dksX8_launch_0 19 rfl rfl)
theorem dX8_launch_22 : decode cX8_launch 22 = .ok (.pop, 1) := dk_87 (dk_at dksX8_launch_0 22 rfl rfl)
theorem dX8_launch_23 : decode cX8_launch 23 = .ok (.iconst 0, 1) := dk_3 (dk_at dksX8_launch_0 23 rfl rfl)
theorem dX8_launch_24 : decode cX8_launch 24 = .ok (.istore_n 3, 1) := dk_62 (dk_at dksX8_launch_1 0 rfl rfl)
theorem dX8_launch_25 : decode cX8_launch 25 = .ok (.iload_n 3, 1) := dk_29 (dk_at dksX8_launch_1 1 rfl rfl)
theorem dX8_launch_26 : decode cX8_launch 26 = .ok (.aload_n 0, 1) := dk_42 (dk_at dksX8_launch_1 2 rfl rfl)
theorem dX8_launch_27 : decode cX8_launch 27 = .ok (.getfield 99, 3) := dk_180 0 99 (dk_at dksX8_launch_1 3 rfl rfl)
theorem dX8_launch_30 : decode cX8_launch 30 = .ok (.if_icmp .ge 27, 3) := dk_162 0 27 (dk_at dksX8_launch_1 6 rfl rfl)
theorem dX8_launch_33 : decode cX8_launch 33 = .ok (.iload_n 1, 1) := dk_27 (dk_at dksX8_launch_1 9 rfl rfl)
theorem dX8_launch_34 : decode cX8_launch 34 = .ok (.iload_n 3, 1) := dk_29 (dk_at dksX8_launch_1 10 rfl rfl)
theorem dX8_launch_35 : decode cX8_launch 35 = .ok (.ishr, 1) := dk_122 (dk_at dksX8_launch_1 11 rfl rfl)
theorem dX8_launch_36 : decode cX8_launch 36 = .ok (.iconst 1, 1) := dk_4 (dk_at dksX8_launch_1 12 rfl rfl)
theorem dX8_launch_37 : decode cX8_launch 37 = .ok (.iand, 1) := dk_126 (dk_at dksX8_launch_1 13 rfl rfl)
theorem dX8_launch_38 : decode cX8_launch 38 = .ok (.iconst 1, 1) := dk_4 (dk_at dksX8_launch_1 14 rfl rfl)
theorem dX8_launch_39 : decode cX8_launch 39 = .ok (.if_icmp .ne 12, 3) := dk_160 0 12 (dk_at dksX8_launch_1 15 rfl rfl)
theorem dX8_launch_42 : decode cX8_launch 42 = .ok (.aload_n 0, 1) := dk_42 (dk_at dksX8_launch_1 18 rfl rfl)
theorem dX8_launch_43 : decode cX8_launch 43 = .ok (.iload_n 3, 1) := dk_29 (dk_at dksX8_launch_1 19 rfl rfl)
theorem dX8_launch_44 : decode cX8_launch 44 = .ok (.aload_n 0, 1) := dk_42 (dk_at dksX8_launch_1 20 rfl rfl)
theorem dX8_launch_45 : decode cX8_launch 45 = .ok (.getfield 142, 3) := dk_180 0 142 (dk_at dksX8_launch_1 21 rfl rfl)
theorem dX8_launch_48 : decode cX8_launch 48 = .ok (.invokevirtual 252, 3) := dk_182 0 252 (dk_at dksX8_launch_2 0 rfl rfl)
theorem dX8_launch_51 : decode cX8_launch 51 = .ok (.iinc 3 1, 3) := dk_132 3 1 (dk_at dksX8_launch_2 3 rfl rfl)
theorem dX8_launch_54 : decode cX8_launch 54 = .ok (.goto (-29), 3) := dk_167 255 227 (dk_at dksX8_launch_2 6 rfl rfl)
theorem dX8_launch_57 : decode cX8_launch 57 = .ok (.iload_n 2, 1) := dk_28 (dk_at dksX8_launch_2 9 rfl rfl)
theorem dX8_launch_58 : decode cX8_launch 58 = .ok (.ireturn, 1) := dk_172 (dk_at dksX8_launch_2 10 rfl rfl)
abbrev cX8_one_2 : ByteArray := prog_16_method_45_code
def yX8_one_2 : MethodName := ⟨RX8, "one", "(I)I"⟩
def dkwX8_one_2_3 : List UInt8 := [132, 4, 1, 167, 255, 202, 27, 154, 0, 7, 28, 167, 0, 4, 29, 172]
abbrev dktX8_one_2_3 : List UInt8 := dkwX8_one_2_3 ++ []
def dkwX8_one_2_2 : List UInt8 := [182, 1, 16, 54, 5, 28, 155, 0, 12, 21, 5, 29, 161, 0, 6, 167, 0, 9, 21, 4, 61, 21, 5, 62]
abbrev dktX8_one_2_2 : List UInt8 := dkwX8_one_2_2 ++ dktX8_one_2_3
def dkwX8_one_2_1 : List UInt8 := [180, 0, 99, 162, 0, 51, 42, 180, 0, 25, 21, 4, 46, 153, 0, 6, 167, 0, 32, 42, 4, 21, 4, 120]
abbrev dktX8_one_2_1 : List UInt8 := dkwX8_one_2_1 ++ dktX8_one_2_2
def dkwX8_one_2_0 : List UInt8 := [27, 3, 4, 184, 0, 102, 154, 0, 6, 16, 254, 172, 2, 61, 3, 62, 3, 54, 4, 21, 4, 42]
abbrev dktX8_one_2_0 : List UInt8 := dkwX8_one_2_0 ++ dktX8_one_2_1
theorem dksX8_one_2_0 : cX8_one_2.data.toList.drop 0 = dktX8_one_2_0 := by decide +kernel
theorem dksX8_one_2_1 : cX8_one_2.data.toList.drop 22 = dktX8_one_2_1 := dk_seg dksX8_one_2_0 22 rfl rfl
theorem dksX8_one_2_2 : cX8_one_2.data.toList.drop 46 = dktX8_one_2_2 := dk_seg dksX8_one_2_1 24 rfl rfl
theorem dksX8_one_2_3 : cX8_one_2.data.toList.drop 70 = dktX8_one_2_3 := dk_seg dksX8_one_2_2 24 rfl rfl
theorem dX8_one_2_0 : decode cX8_one_2 0 = .ok (.iload_n 1, 1) := dk_27 (dk_at dksX8_one_2_0 0 rfl rfl)
theorem dX8_one_2_1 : decode cX8_one_2 1 = .ok (.iconst 0, 1) := dk_3 (dk_at dksX8_one_2_0 1 rfl rfl)
theorem dX8_one_2_2 : decode cX8_one_2 2 = .ok (.iconst 1, 1) := dk_4 (dk_at dksX8_one_2_0 2 rfl rfl)
theorem dX8_one_2_3 : decode cX8_one_2 3 = .ok (.invokestatic 102, 3) := dk_184 0 102 (dk_at dksX8_one_2_0 3 rfl rfl)
theorem dX8_one_2_6 : decode cX8_one_2 6 = .ok (.ifCond .ne 6, 3) := dk_154 0 6 (dk_at dksX8_one_2_0 6 rfl rfl)
theorem dX8_one_2_9 : decode cX8_one_2 9 = .ok (.bipush (-2), 2) := dk_16 254 (dk_at dksX8_one_2_0 9 rfl rfl)
theorem dX8_one_2_11 : decode cX8_one_2 11 = .ok (.ireturn, 1) := dk_172 (dk_at dksX8_one_2_0 11 rfl rfl)
theorem dX8_one_2_12 : decode cX8_one_2 12 = .ok (.iconst (-1), 1) := dk_2 (dk_at dksX8_one_2_0 12 rfl rfl)
theorem dX8_one_2_13 : decode cX8_one_2 13 = .ok (.istore_n 2, 1) := dk_61 (dk_at dksX8_one_2_0 13 rfl rfl)
theorem dX8_one_2_14 : decode cX8_one_2 14 = .ok (.iconst 0, 1) := dk_3 (dk_at dksX8_one_2_0 14 rfl rfl)
theorem dX8_one_2_15 : decode cX8_one_2 15 = .ok (.istore_n 3, 1) := dk_62 (dk_at dksX8_one_2_0 15 rfl rfl)
theorem dX8_one_2_16 : decode cX8_one_2 16 = .ok (.iconst 0, 1) := dk_3 (dk_at dksX8_one_2_0 16 rfl rfl)
theorem dX8_one_2_17 : decode cX8_one_2 17 = .ok (.istore 4, 2) := dk_54 4 (dk_at dksX8_one_2_0 17 rfl rfl)
theorem dX8_one_2_19 : decode cX8_one_2 19 = .ok (.iload 4, 2) := dk_21 4 (dk_at dksX8_one_2_0 19 rfl rfl)
theorem dX8_one_2_21 : decode cX8_one_2 21 = .ok (.aload_n 0, 1) := dk_42 (dk_at dksX8_one_2_0 21 rfl rfl)
theorem dX8_one_2_22 : decode cX8_one_2 22 = .ok (.getfield 99, 3) := dk_180 0 99 (dk_at dksX8_one_2_1 0 rfl rfl)
theorem dX8_one_2_25 : decode cX8_one_2 25 = .ok (.if_icmp .ge 51, 3) := dk_162 0 51 (dk_at dksX8_one_2_1 3 rfl rfl)
theorem dX8_one_2_28 : decode cX8_one_2 28 = .ok (.aload_n 0, 1) := dk_42 (dk_at dksX8_one_2_1 6 rfl rfl)
theorem dX8_one_2_29 : decode cX8_one_2 29 = .ok (.getfield 25, 3) := dk_180 0 25 (dk_at dksX8_one_2_1 7 rfl rfl)
theorem dX8_one_2_32 : decode cX8_one_2 32 = .ok (.iload 4, 2) := dk_21 4 (dk_at dksX8_one_2_1 10 rfl rfl)
theorem dX8_one_2_34 : decode cX8_one_2 34 = .ok (.iaload, 1) := dk_46 (dk_at dksX8_one_2_1 12 rfl rfl)
theorem dX8_one_2_35 : decode cX8_one_2 35 = .ok (.ifCond .eq 6, 3) := dk_153 0 6 (dk_at dksX8_one_2_1 13 rfl rfl)
theorem dX8_one_2_38 : decode cX8_one_2 38 = .ok (.goto 32, 3) := dk_167 0 32 (dk_at dksX8_one_2_1 16 rfl rfl)
theorem dX8_one_2_41 : decode cX8_one_2 41 = .ok (.aload_n 0, 1) := dk_42 (dk_at dksX8_one_2_1 19 rfl rfl)
theorem dX8_one_2_42 : decode cX8_one_2 42 = .ok (.iconst 1, 1) := dk_4 (dk_at dksX8_one_2_1 20 rfl rfl)
theorem dX8_one_2_43 : decode cX8_one_2 43 = .ok (.iload 4, 2) := dk_21 4 (dk_at dksX8_one_2_1 21 rfl rfl)
theorem dX8_one_2_45 : decode cX8_one_2 45 = .ok (.ishl, 1) := dk_120 (dk_at dksX8_one_2_1 23 rfl rfl)
theorem dX8_one_2_46 : decode cX8_one_2 46 = .ok (.invokevirtual 272, 3) := dk_182 1 16 (dk_at dksX8_one_2_2 0 rfl rfl)
theorem dX8_one_2_49 : decode cX8_one_2 49 = .ok (.istore 5, 2) := dk_54 5 (dk_at dksX8_one_2_2 3 rfl rfl)
theorem dX8_one_2_51 : decode cX8_one_2 51 = .ok (.iload_n 2, 1) := dk_28 (dk_at dksX8_one_2_2 5 rfl rfl)
theorem dX8_one_2_52 : decode cX8_one_2 52 = .ok (.ifCond .lt 12, 3) := dk_155 0 12 (dk_at dksX8_one_2_2 6 rfl rfl)
theorem dX8_one_2_55 : decode cX8_one_2 55 = .ok (.iload 5, 2) := dk_21 5 (dk_at dksX8_one_2_2 9 rfl rfl)
theorem dX8_one_2_57 : decode cX8_one_2 57 = .ok (.iload_n 3, 1) := dk_29 (dk_at dksX8_one_2_2 11 rfl rfl)
theorem dX8_one_2_58 : decode cX8_one_2 58 = .ok (.if_icmp .lt 6, 3) := dk_161 0 6 (dk_at dksX8_one_2_2 12 rfl rfl)
theorem dX8_one_2_61 : decode cX8_one_2 61 = .ok (.goto 9, 3) := dk_167 0 9 (dk_at dksX8_one_2_2 15 rfl rfl)
theorem dX8_one_2_64 : decode cX8_one_2 64 = .ok (.iload 4, 2) := dk_21 4 (dk_at dksX8_one_2_2 18 rfl rfl)
theorem dX8_one_2_66 : decode cX8_one_2 66 = .ok (.istore_n 2, 1) := dk_61 (dk_at dksX8_one_2_2 20 rfl rfl)
theorem dX8_one_2_67 : decode cX8_one_2 67 = .ok (.iload 5, 2) := dk_21 5 (dk_at dksX8_one_2_2 21 rfl rfl)
theorem dX8_one_2_69 : decode cX8_one_2 69 = .ok (.istore_n 3, 1) := dk_62 (dk_at dksX8_one_2_2 23 rfl rfl)
theorem dX8_one_2_70 : decode cX8_one_2 70 = .ok (.iinc 4 1, 3) := dk_132 4 1 (dk_at dksX8_one_2_3 0 rfl rfl)
theorem dX8_one_2_73 : decode cX8_one_2 73 = .ok (.goto (-54), 3) := dk_167 255 202 (dk_at dksX8_one_2_3 3 rfl rfl)
theorem dX8_one_2_76 : decode cX8_one_2 76 = .ok (.iload_n 1, 1) := dk_27 (dk_at dksX8_one_2_3 6 rfl rfl)
theorem dX8_one_2_77 : decode cX8_one_2 77 = .ok (.ifCond .ne 7, 3) := dk_154 0 7 (dk_at dksX8_one_2_3 7 rfl rfl)
theorem dX8_one_2_80 : decode cX8_one_2 80 = .ok (.iload_n 2, 1) := dk_28 (dk_at dksX8_one_2_3 10 rfl rfl)
theorem dX8_one_2_81 : decode cX8_one_2 81 = .ok (.goto 4, 3) := dk_167 0 4 (dk_at dksX8_one_2_3 11 rfl rfl)
theorem dX8_one_2_84 : decode cX8_one_2 84 = .ok (.iload_n 3, 1) := dk_29 (dk_at dksX8_one_2_3 14 rfl rfl)
theorem dX8_one_2_85 : decode cX8_one_2 85 = .ok (.ireturn, 1) := dk_172 (dk_at dksX8_one_2_3 15 rfl rfl)
abbrev cX8_thunder : ByteArray := prog_16_method_46_code
def yX8_thunder : MethodName := ⟨RX8, "thunder", "(II)I"⟩
def dkwX8_thunder_6 : List UInt8 := [21, 5, 184, 1, 19, 54, 4, 132, 5, 1, 167, 255, 206, 21, 4, 172]
abbrev dktX8_thunder_6 : List UInt8 := dkwX8_thunder_6 ++ []
def dkwX8_thunder_5 : List UInt8 := [154, 0, 30, 21, 5, 184, 1, 19, 21, 4, 164, 0, 20, 42, 21, 5, 182, 1, 16, 27, 163, 0, 10]
abbrev dktX8_thunder_5 : List UInt8 := dkwX8_thunder_5 ++ dktX8_thunder_6
def dkwX8_thunder_4 : List UInt8 := [62, 3, 54, 4, 4, 54, 5, 21, 5, 4, 42, 180, 0, 99, 120, 162, 0, 45, 21, 5, 29, 2, 130, 126]
abbrev dktX8_thunder_4 : List UInt8 := dkwX8_thunder_4 ++ dktX8_thunder_5
def dkwX8_thunder_3 : List UInt8 := [27, 96, 163, 0, 10, 29, 4, 21, 4, 120, 128, 62, 132, 4, 1, 167, 255, 202, 29, 172, 42, 182, 1, 24]
abbrev dktX8_thunder_3 : List UInt8 := dkwX8_thunder_3 ++ dktX8_thunder_4
def dkwX8_thunder_2 : List UInt8 := [54, 5, 42, 180, 0, 25, 21, 4, 46, 5, 159, 0, 19, 21, 5, 155, 0, 21, 21, 5, 42, 180, 0, 142]
abbrev dktX8_thunder_2 : List UInt8 := dkwX8_thunder_2 ++ dktX8_thunder_3
def dkwX8_thunder_1 : List UInt8 := [154, 0, 67, 3, 62, 3, 54, 4, 21, 4, 42, 180, 0, 99, 162, 0, 51, 42, 21, 4, 182, 1, 3]
abbrev dktX8_thunder_1 : List UInt8 := dkwX8_thunder_1 ++ dktX8_thunder_2
def dkwX8_thunder_0 : List UInt8 := [27, 3, 17, 0, 240, 184, 0, 102, 153, 0, 12, 28, 3, 4, 184, 0, 102, 154, 0, 6, 16, 254, 172, 28]
abbrev dktX8_thunder_0 : List UInt8 := dkwX8_thunder_0 ++ dktX8_thunder_1
theorem dksX8_thunder_0 : cX8_thunder.data.toList.drop 0 = dktX8_thunder_0 := by decide +kernel
theorem dksX8_thunder_1 : cX8_thunder.data.toList.drop 24 = dktX8_thunder_1 := dk_seg dksX8_thunder_0 24 rfl rfl
theorem dksX8_thunder_2 : cX8_thunder.data.toList.drop 47 = dktX8_thunder_2 := dk_seg dksX8_thunder_1 23 rfl rfl
theorem dksX8_thunder_3 : cX8_thunder.data.toList.drop 71 = dktX8_thunder_3 := dk_seg dksX8_thunder_2 24 rfl rfl
theorem dksX8_thunder_4 : cX8_thunder.data.toList.drop 95 = dktX8_thunder_4 := dk_seg dksX8_thunder_3 24 rfl rfl
theorem dksX8_thunder_5 : cX8_thunder.data.toList.drop 119 = dktX8_thunder_5 := dk_seg dksX8_thunder_4 24 rfl rfl
theorem dksX8_thunder_6 : cX8_thunder.data.toList.drop 142 = dktX8_thunder_6 := dk_seg dksX8_thunder_5 23 rfl rfl
theorem dX8_thunder_0 : decode cX8_thunder 0 = .ok (.iload_n 1, 1) := dk_27 (dk_at dksX8_thunder_0 0 rfl rfl)
theorem dX8_thunder_1 : decode cX8_thunder 1 = .ok (.iconst 0, 1) := dk_3 (dk_at dksX8_thunder_0 1 rfl rfl)
theorem dX8_thunder_2 : decode cX8_thunder 2 = .ok (.sipush 240, 3) := dk_17 0 240 (dk_at dksX8_thunder_0 2 rfl rfl)
theorem dX8_thunder_5 : decode cX8_thunder 5 = .ok (.invokestatic 102, 3) := dk_184 0 102 (dk_at dksX8_thunder_0 5 rfl rfl)
theorem dX8_thunder_8 : decode cX8_thunder 8 = .ok (.ifCond .eq 12, 3) := dk_153 0 12 (dk_at dksX8_thunder_0 8 rfl rfl)
theorem dX8_thunder_11 : decode cX8_thunder 11 = .ok (.iload_n 2, 1) := dk_28 (dk_at dksX8_thunder_0 11 rfl rfl)
theorem dX8_thunder_12 : decode cX8_thunder 12 = .ok (.iconst 0, 1) := dk_3 (dk_at dksX8_thunder_0 12 rfl rfl)
theorem dX8_thunder_13 : decode cX8_thunder 13 = .ok (.iconst 1, 1) := dk_4 (dk_at dksX8_thunder_0 13 rfl rfl)
theorem dX8_thunder_14 : decode cX8_thunder 14 = .ok (.invokestatic 102, 3) := dk_184 0 102 (dk_at dksX8_thunder_0 14 rfl rfl)
theorem dX8_thunder_17 : decode cX8_thunder 17 = .ok (.ifCond .ne 6, 3) := dk_154 0 6 (dk_at dksX8_thunder_0 17 rfl rfl)
theorem dX8_thunder_20 : decode cX8_thunder 20 = .ok (.bipush (-2), 2) := dk_16 254 (dk_at dksX8_thunder_0 20 rfl rfl)
theorem dX8_thunder_22 : decode cX8_thunder 22 = .ok (.ireturn, 1) := dk_172 (dk_at dksX8_thunder_0 22 rfl rfl)
theorem dX8_thunder_23 : decode cX8_thunder 23 = .ok (.iload_n 2, 1) := dk_28 (dk_at dksX8_thunder_0 23 rfl rfl)
theorem dX8_thunder_24 : decode cX8_thunder 24 = .ok (.ifCond .ne 67, 3) := dk_154 0 67 (dk_at dksX8_thunder_1 0 rfl rfl)
theorem dX8_thunder_27 : decode cX8_thunder 27 = .ok (.iconst 0, 1) := dk_3 (dk_at dksX8_thunder_1 3 rfl rfl)
theorem dX8_thunder_28 : decode cX8_thunder 28 = .ok (.istore_n 3, 1) := dk_62 (dk_at dksX8_thunder_1 4 rfl rfl)
theorem dX8_thunder_29 : decode cX8_thunder 29 = .ok (.iconst 0, 1) := dk_3 (dk_at dksX8_thunder_1 5 rfl rfl)
theorem dX8_thunder_30 : decode cX8_thunder 30 = .ok (.istore 4, 2) := dk_54 4 (dk_at dksX8_thunder_1 6 rfl rfl)
theorem dX8_thunder_32 : decode cX8_thunder 32 = .ok (.iload 4, 2) := dk_21 4 (dk_at dksX8_thunder_1 8 rfl rfl)
theorem dX8_thunder_34 : decode cX8_thunder 34 = .ok (.aload_n 0, 1) := dk_42 (dk_at dksX8_thunder_1 10 rfl rfl)
theorem dX8_thunder_35 : decode cX8_thunder 35 = .ok (.getfield 99, 3) := dk_180 0 99 (dk_at dksX8_thunder_1 11 rfl rfl)
theorem dX8_thunder_38 : decode cX8_thunder 38 = .ok (.if_icmp .ge 51, 3) := dk_162 0 51 (dk_at dksX8_thunder_1 14 rfl rfl)
theorem dX8_thunder_41 : decode cX8_thunder 41 = .ok (.aload_n 0, 1) := dk_42 (dk_at dksX8_thunder_1 17 rfl rfl)
theorem dX8_thunder_42 : decode cX8_thunder 42 = .ok (.iload 4, 2) := dk_21 4 (dk_at dksX8_thunder_1 18 rfl rfl)
theorem dX8_thunder_44 : decode cX8_thunder 44 = .ok (.invokevirtual 259, 3) := dk_182 1 3 (dk_at dksX8_thunder_1 20 rfl rfl)
theorem dX8_thunder_47 : decode cX8_thunder 47 = .ok (.istore 5, 2) := dk_54 5 (dk_at dksX8_thunder_2 0 rfl rfl)
theorem dX8_thunder_49 : decode cX8_thunder 49 = .ok (.aload_n 0, 1) := dk_42 (dk_at dksX8_thunder_2 2 rfl rfl)
theorem dX8_thunder_50 : decode cX8_thunder 50 = .ok (.getfield 25, 3) := dk_180 0 25 (dk_at dksX8_thunder_2 3 rfl rfl)
theorem dX8_thunder_53 : decode cX8_thunder 53 = .ok (.iload 4, 2) := dk_21 4 (dk_at dksX8_thunder_2 6 rfl rfl)
theorem dX8_thunder_55 : decode cX8_thunder 55 = .ok (.iaload, 1) := dk_46 (dk_at dksX8_thunder_2 8 rfl rfl)
theorem dX8_thunder_56 : decode cX8_thunder 56 = .ok (.iconst 2, 1) := dk_5 (dk_at dksX8_thunder_2 9 rfl rfl)
theorem dX8_thunder_57 : decode cX8_thunder 57 = .ok (.if_icmp .eq 19, 3) := dk_159 0 19 (dk_at dksX8_thunder_2 10 rfl rfl)
theorem dX8_thunder_60 : decode cX8_thunder 60 = .ok (.iload 5, 2) := dk_21 5 (dk_at dksX8_thunder_2 13 rfl rfl)
theorem dX8_thunder_62 : decode cX8_thunder 62 = .ok (.ifCond .lt 21, 3) := dk_155 0 21 (dk_at dksX8_thunder_2 15 rfl rfl)
theorem dX8_thunder_65 : decode cX8_thunder 65 = .ok (.iload 5, 2) := dk_21 5 (dk_at dksX8_thunder_2 18 rfl rfl)
theorem dX8_thunder_67 : decode cX8_thunder 67 = .ok (.aload_n 0, 1) := dk_42 (dk_at dksX8_thunder_2 20 rfl rfl)
theorem dX8_thunder_68 : decode cX8_thunder 68 = .ok (.getfield 142, 3) := dk_180 0 142 (dk_at dksX8_thunder_2 21 rfl rfl)
theorem dX8_thunder_71 : decode cX8_thunder 71 = .ok (.iload_n 1, 1) := dk_27 (dk_at dksX8_thunder_3 0 rfl rfl)
theorem dX8_thunder_72 : decode cX8_thunder 72 = .ok (.iadd, 1) := dk_96 (dk_at dksX8_thunder_3 1 rfl rfl)
theorem dX8_thunder_73 : decode cX8_thunder 73 = .ok (.if_icmp .gt 10, 3) := dk_163 0 10 (dk_at dksX8_thunder_3 2 rfl rfl)
theorem dX8_thunder_76 : decode cX8_thunder 76 = .ok (.iload_n 3, 1) := dk_29 (dk_at dksX8_thunder_3 5 rfl rfl)
theorem dX8_thunder_77 : decode cX8_thunder 77 = .ok (.iconst 1, 1) := dk_4 (dk_at dksX8_thunder_3 6 rfl rfl)
theorem dX8_thunder_78 : decode cX8_thunder 78 = .ok (.iload 4, 2) := dk_21 4 (dk_at dksX8_thunder_3 7 rfl rfl)
theorem dX8_thunder_80 : decode cX8_thunder 80 = .ok (.ishl, 1) := dk_120 (dk_at dksX8_thunder_3 9 rfl rfl)
theorem dX8_thunder_81 : decode cX8_thunder 81 = .ok (.ior, 1) := dk_128 (dk_at dksX8_thunder_3 10 rfl rfl)
theorem dX8_thunder_82 : decode cX8_thunder 82 = .ok (.istore_n 3, 1) := dk_62 (dk_at dksX8_thunder_3 11 rfl rfl)
theorem dX8_thunder_83 : decode cX8_thunder 83 = .ok (.iinc 4 1, 3) := dk_132 4 1 (dk_at dksX8_thunder_3 12 rfl rfl)
theorem dX8_thunder_86 : decode cX8_thunder 86 = .ok (.goto (-54), 3) := dk_167 255 202 (dk_at dksX8_thunder_3 15 rfl rfl)
theorem dX8_thunder_89 : decode cX8_thunder 89 = .ok (.iload_n 3, 1) := dk_29 (dk_at dksX8_thunder_3 18 rfl rfl)
theorem dX8_thunder_90 : decode cX8_thunder 90 = .ok (.ireturn, 1) := dk_172 (dk_at dksX8_thunder_3 19 rfl rfl)
theorem dX8_thunder_91 : decode cX8_thunder 91 = .ok (.aload_n 0, 1) := dk_42 (dk_at dksX8_thunder_3 20 rfl rfl)
theorem dX8_thunder_92 : decode cX8_thunder 92 = .ok (.invokevirtual 280, 3) := dk_182 1 24 (dk_at dksX8_thunder_3 21 rfl rfl)
theorem dX8_thunder_95 : decode cX8_thunder 95 = .ok (.istore_n 3, 1) := dk_62 (dk_at dksX8_thunder_4 0 rfl rfl)
theorem dX8_thunder_96 : decode cX8_thunder 96 = .ok (.iconst 0, 1) := dk_3 (dk_at dksX8_thunder_4 1 rfl rfl)
theorem dX8_thunder_97 : decode cX8_thunder 97 = .ok (.istore 4, 2) := dk_54 4 (dk_at dksX8_thunder_4 2 rfl rfl)
theorem dX8_thunder_99 : decode cX8_thunder 99 = .ok (.iconst 1, 1) := dk_4 (dk_at dksX8_thunder_4 4 rfl rfl)
theorem dX8_thunder_100 : decode cX8_thunder 100 = .ok (.istore 5, 2) := dk_54 5 (dk_at dksX8_thunder_4 5 rfl rfl)
theorem dX8_thunder_102 : decode cX8_thunder 102 = .ok (.iload 5, 2) := dk_21 5 (dk_at dksX8_thunder_4 7 rfl rfl)
theorem dX8_thunder_104 : decode cX8_thunder 104 = .ok (.iconst 1, 1) := dk_4 (dk_at dksX8_thunder_4 9 rfl rfl)
theorem dX8_thunder_105 : decode cX8_thunder 105 = .ok (.aload_n 0, 1) := dk_42 (dk_at dksX8_thunder_4 10 rfl rfl)
theorem dX8_thunder_106 : decode cX8_thunder 106 = .ok (.getfield 99, 3) := dk_180 0 99 (dk_at dksX8_thunder_4 11 rfl rfl)
theorem dX8_thunder_109 : decode cX8_thunder 109 = .ok (.ishl, 1) := dk_120 (dk_at dksX8_thunder_4 14 rfl rfl)
theorem dX8_thunder_110 : decode cX8_thunder 110 = .ok (.if_icmp .ge 45, 3) := dk_162 0 45 (dk_at dksX8_thunder_4 15 rfl rfl)
theorem dX8_thunder_113 : decode cX8_thunder 113 = .ok (.iload 5, 2) := dk_21 5 (dk_at dksX8_thunder_4 18 rfl rfl)
theorem dX8_thunder_115 : decode cX8_thunder 115 = .ok (.iload_n 3, 1) := dk_29 (dk_at dksX8_thunder_4 20 rfl rfl)
theorem dX8_thunder_116 : decode cX8_thunder 116 = .ok (.iconst (-1), 1) := dk_2 (dk_at dksX8_thunder_4 21 rfl rfl)
theorem dX8_thunder_117 : decode cX8_thunder 117 = .ok (.ixor, 1) := dk_130 (dk_at dksX8_thunder_4 22 rfl rfl)
theorem dX8_thunder_118 : decode cX8_thunder 118 = .ok (.iand, 1) := dk_126 (dk_at dksX8_thunder_4 23 rfl rfl)
theorem dX8_thunder_119 : decode cX8_thunder 119 = .ok (.ifCond .ne 30, 3) := dk_154 0 30 (dk_at dksX8_thunder_5 0 rfl rfl)
theorem dX8_thunder_122 : decode cX8_thunder 122 = .ok (.iload 5, 2) := dk_21 5 (dk_at dksX8_thunder_5 3 rfl rfl)
theorem dX8_thunder_124 : decode cX8_thunder 124 = .ok (.invokestatic 275, 3) := dk_184 1 19 (dk_at dksX8_thunder_5 5 rfl rfl)
theorem dX8_thunder_127 : decode cX8_thunder 127 = .ok (.iload 4, 2) := dk_21 4 (dk_at dksX8_thunder_5 8 rfl rfl)
theorem dX8_thunder_129 : decode cX8_thunder 129 = .ok (.if_icmp .le 20, 3) := dk_164 0 20 (dk_at dksX8_thunder_5 10 rfl rfl)
theorem dX8_thunder_132 : decode cX8_thunder 132 = .ok (.aload_n 0, 1) := dk_42 (dk_at dksX8_thunder_5 13 rfl rfl)
theorem dX8_thunder_133 : decode cX8_thunder 133 = .ok (.iload 5, 2) := dk_21 5 (dk_at dksX8_thunder_5 14 rfl rfl)
theorem dX8_thunder_135 : decode cX8_thunder 135 = .ok (.invokevirtual 272, 3) := dk_182 1 16 (dk_at dksX8_thunder_5 16 rfl rfl)
theorem dX8_thunder_138 : decode cX8_thunder 138 = .ok (.iload_n 1, 1) := dk_27 (dk_at dksX8_thunder_5 19 rfl rfl)
theorem dX8_thunder_139 : decode cX8_thunder 139 = .ok (.if_icmp .gt 10, 3) := dk_163 0 10 (dk_at dksX8_thunder_5 20 rfl rfl)
theorem dX8_thunder_142 : decode cX8_thunder 142 = .ok (.iload 5, 2) := dk_21 5 (dk_at dksX8_thunder_6 0 rfl rfl)
theorem dX8_thunder_144 : decode cX8_thunder 144 = .ok (.invokestatic 275, 3) := dk_184 1 19 (dk_at dksX8_thunder_6 2 rfl rfl)
theorem dX8_thunder_147 : decode cX8_thunder 147 = .ok (.istore 4, 2) := dk_54 4 (dk_at dksX8_thunder_6 5 rfl rfl)
theorem dX8_thunder_149 : decode cX8_thunder 149 = .ok (.iinc 5 1, 3) := dk_132 5 1 (dk_at dksX8_thunder_6 7 rfl rfl)
theorem dX8_thunder_152 : decode cX8_thunder 152 = .ok (.goto (-50), 3) := dk_167 255 206 (dk_at dksX8_thunder_6 10 rfl rfl)
theorem dX8_thunder_155 : decode cX8_thunder 155 = .ok (.iload 4, 2) := dk_21 4 (dk_at dksX8_thunder_6 13 rfl rfl)
theorem dX8_thunder_157 : decode cX8_thunder 157 = .ok (.ireturn, 1) := dk_172 (dk_at dksX8_thunder_6 15 rfl rfl)
abbrev cX8_stand : ByteArray := prog_16_method_47_code
def yX8_stand : MethodName := ⟨RX8, "stand", "()I"⟩
def dkwX8_stand_5 : List UInt8 := [167, 0, 6, 17, 0, 240, 96, 61, 132, 3, 1, 167, 255, 220, 28, 172]
abbrev dktX8_stand_5 : List UInt8 := dkwX8_stand_5 ++ []
def dkwX8_stand_4 : List UInt8 := [180, 0, 119, 162, 0, 34, 28, 29, 27, 162, 0, 17, 42, 180, 0, 52, 29, 46, 42, 180, 0, 142, 100]
abbrev dktX8_stand_4 : List UInt8 := dkwX8_stand_4 ++ dktX8_stand_5
def dkwX8_stand_3 : List UInt8 := [167, 255, 219, 42, 180, 0, 52, 21, 4, 29, 79, 132, 2, 1, 167, 255, 178, 3, 61, 3, 62, 29, 42]
abbrev dktX8_stand_3 : List UInt8 := dkwX8_stand_3 ++ dktX8_stand_4
def dkwX8_stand_2 : List UInt8 := [164, 0, 25, 42, 180, 0, 52, 21, 4, 42, 180, 0, 52, 21, 4, 4, 100, 46, 79, 132, 4, 255]
abbrev dktX8_stand_2 : List UInt8 := dkwX8_stand_2 ++ dktX8_stand_3
def dkwX8_stand_1 : List UInt8 := [167, 0, 57, 27, 132, 1, 1, 54, 4, 21, 4, 158, 0, 38, 42, 180, 0, 52, 21, 4, 4, 100, 46, 29]
abbrev dktX8_stand_1 : List UInt8 := dkwX8_stand_1 ++ dktX8_stand_2
def dkwX8_stand_0 : List UInt8 := [3, 60, 3, 61, 28, 42, 180, 0, 99, 162, 0, 76, 42, 28, 182, 1, 3, 62, 29, 156, 0, 6]
abbrev dktX8_stand_0 : List UInt8 := dkwX8_stand_0 ++ dktX8_stand_1
theorem dksX8_stand_0 : cX8_stand.data.toList.drop 0 = dktX8_stand_0 := by decide +kernel
theorem dksX8_stand_1 : cX8_stand.data.toList.drop 22 = dktX8_stand_1 := dk_seg dksX8_stand_0 22 rfl rfl
theorem dksX8_stand_2 : cX8_stand.data.toList.drop 46 = dktX8_stand_2 := dk_seg dksX8_stand_1 24 rfl rfl
theorem dksX8_stand_3 : cX8_stand.data.toList.drop 68 = dktX8_stand_3 := dk_seg dksX8_stand_2 22 rfl rfl
theorem dksX8_stand_4 : cX8_stand.data.toList.drop 91 = dktX8_stand_4 := dk_seg dksX8_stand_3 23 rfl rfl
theorem dksX8_stand_5 : cX8_stand.data.toList.drop 114 = dktX8_stand_5 := dk_seg dksX8_stand_4 23 rfl rfl
theorem dX8_stand_0 : decode cX8_stand 0 = .ok (.iconst 0, 1) := dk_3 (dk_at dksX8_stand_0 0 rfl rfl)
theorem dX8_stand_1 : decode cX8_stand 1 = .ok (.istore_n 1, 1) := dk_60 (dk_at dksX8_stand_0 1 rfl rfl)
theorem dX8_stand_2 : decode cX8_stand 2 = .ok (.iconst 0, 1) := dk_3 (dk_at dksX8_stand_0 2 rfl rfl)
theorem dX8_stand_3 : decode cX8_stand 3 = .ok (.istore_n 2, 1) := dk_61 (dk_at dksX8_stand_0 3 rfl rfl)
theorem dX8_stand_4 : decode cX8_stand 4 = .ok (.iload_n 2, 1) := dk_28 (dk_at dksX8_stand_0 4 rfl rfl)
theorem dX8_stand_5 : decode cX8_stand 5 = .ok (.aload_n 0, 1) := dk_42 (dk_at dksX8_stand_0 5 rfl rfl)
theorem dX8_stand_6 : decode cX8_stand 6 = .ok (.getfield 99, 3) := dk_180 0 99 (dk_at dksX8_stand_0 6 rfl rfl)
theorem dX8_stand_9 : decode cX8_stand 9 = .ok (.if_icmp .ge 76, 3) := dk_162 0 76 (dk_at dksX8_stand_0 9 rfl rfl)
theorem dX8_stand_12 : decode cX8_stand 12 = .ok (.aload_n 0, 1) := dk_42 (dk_at dksX8_stand_0 12 rfl rfl)
theorem dX8_stand_13 : decode cX8_stand 13 = .ok (.iload_n 2, 1) := dk_28 (dk_at dksX8_stand_0 13 rfl rfl)
theorem dX8_stand_14 : decode cX8_stand 14 = .ok (.invokevirtual 259, 3) := dk_182 1 3 (dk_at dksX8_stand_0 14 rfl rfl)
theorem dX8_stand_17 : decode cX8_stand 17 = .ok (.istore_n 3, 1) := dk_62 (dk_at dksX8_stand_0 17 rfl rfl)
theorem dX8_stand_18 : decode cX8_stand 18 = .ok (.iload_n 3, 1) := dk_29 (dk_at dksX8_stand_0 18 rfl rfl)
theorem dX8_stand_19 : decode cX8_stand 19 = .ok (.ifCond .ge 6, 3) := dk_156 0 6 (dk_at dksX8_stand_0 19 rfl rfl)
theorem dX8_stand_22 : decode cX8_stand 22 = .ok (.goto 57, 3) := dk_167 0 57 (dk_at dksX8_stand_1 0 rfl rfl)
theorem dX8_stand_25 : decode cX8_stand 25 = .ok (.iload_n 1, 1) := dk_27 (dk_at dksX8_stand_1 3 rfl rfl)
theorem dX8_stand_26 : decode cX8_stand 26 = .ok (.iinc 1 1, 3) := dk_132 1 1 (dk_at dksX8_stand_1 4 rfl rfl)
theorem dX8_stand_29 : decode cX8_stand 29 = .ok (.istore 4, 2) := dk_54 4 (dk_at dksX8_stand_1 7 rfl rfl)
theorem dX8_stand_31 : decode cX8_stand 31 = .ok (.iload 4, 2) := dk_21 4 (dk_at dksX8_stand_1 9 rfl rfl)
theorem dX8_stand_33 : decode cX8_stand 33 = .ok (.ifCond .le 38, 3) := dk_158 0 38 (dk_at dksX8_stand_1 11 rfl rfl)
theorem dX8_stand_36 : decode cX8_stand 36 = .ok (.aload_n 0, 1) := dk_42 (dk_at dksX8_stand_1 14 rfl rfl)
theorem dX8_stand_37 : decode cX8_stand 37 = .ok (.getfield 52, 3) := dk_180 0 52 (dk_at dksX8_stand_1 15 rfl rfl)
theorem dX8_stand_40 : decode cX8_stand 40 = .ok (.iload 4, 2) := dk_21 4 (dk_at dksX8_stand_1 18 rfl rfl)
theorem dX8_stand_42 : decode cX8_stand 42 = .ok (.iconst 1, 1) := dk_4 (dk_at dksX8_stand_1 20 rfl rfl)
theorem dX8_stand_43 : decode cX8_stand 43 = .ok (.isub, 1) := dk_100 (dk_at dksX8_stand_1 21 rfl rfl)
theorem dX8_stand_44 : decode cX8_stand 44 = .ok (.iaload, 1) := dk_46 (dk_at dksX8_stand_1 22 rfl rfl)
theorem dX8_stand_45 : decode cX8_stand 45 = .ok (.iload_n 3, 1) := dk_29 (dk_at dksX8_stand_1 23 rfl rfl)
theorem dX8_stand_46 : decode cX8_stand 46 = .ok (.if_icmp .le 25, 3) := dk_164 0 25 (dk_at dksX8_stand_2 0 rfl rfl)
theorem dX8_stand_49 : decode cX8_stand 49 = .ok (.aload_n 0, 1) := dk_42 (dk_at dksX8_stand_2 3 rfl rfl)
theorem dX8_stand_50 : decode cX8_stand 50 = .ok (.getfield 52, 3) := dk_180 0 52 (dk_at dksX8_stand_2 4 rfl rfl)
theorem dX8_stand_53 : decode cX8_stand 53 = .ok (.iload 4, 2) := dk_21 4 (dk_at dksX8_stand_2 7 rfl rfl)
theorem dX8_stand_55 : decode cX8_stand 55 = .ok (.aload_n 0, 1) := dk_42 (dk_at dksX8_stand_2 9 rfl rfl)
theorem dX8_stand_56 : decode cX8_stand 56 = .ok (.getfield 52, 3) := dk_180 0 52 (dk_at dksX8_stand_2 10 rfl rfl)
theorem dX8_stand_59 : decode cX8_stand 59 = .ok (.iload 4, 2) := dk_21 4 (dk_at dksX8_stand_2 13 rfl rfl)
theorem dX8_stand_61 : decode cX8_stand 61 = .ok (.iconst 1, 1) := dk_4 (dk_at dksX8_stand_2 15 rfl rfl)
theorem dX8_stand_62 : decode cX8_stand 62 = .ok (.isub, 1) := dk_100 (dk_at dksX8_stand_2 16 rfl rfl)
theorem dX8_stand_63 : decode cX8_stand 63 = .ok (.iaload, 1) := dk_46 (dk_at dksX8_stand_2 17 rfl rfl)
theorem dX8_stand_64 : decode cX8_stand 64 = .ok (.iastore, 1) := dk_79 (dk_at dksX8_stand_2 18 rfl rfl)
theorem dX8_stand_65 : decode cX8_stand 65 = .ok (.iinc 4 (-1), 3) := dk_132 4 255 (dk_at dksX8_stand_2 19 rfl rfl)
theorem dX8_stand_68 : decode cX8_stand 68 = .ok (.goto (-37), 3) := dk_167 255 219 (dk_at dksX8_stand_3 0 rfl rfl)
theorem dX8_stand_71 : decode cX8_stand 71 = .ok (.aload_n 0, 1) := dk_42 (dk_at dksX8_stand_3 3 rfl rfl)
theorem dX8_stand_72 : decode cX8_stand 72 = .ok (.getfield 52, 3) := dk_180 0 52 (dk_at dksX8_stand_3 4 rfl rfl)
theorem dX8_stand_75 : decode cX8_stand 75 = .ok (.iload 4, 2) := dk_21 4 (dk_at dksX8_stand_3 7 rfl rfl)
theorem dX8_stand_77 : decode cX8_stand 77 = .ok (.iload_n 3, 1) := dk_29 (dk_at dksX8_stand_3 9 rfl rfl)
theorem dX8_stand_78 : decode cX8_stand 78 = .ok (.iastore, 1) := dk_79 (dk_at dksX8_stand_3 10 rfl rfl)
theorem dX8_stand_79 : decode cX8_stand 79 = .ok (.iinc 2 1, 3) := dk_132 2 1 (dk_at dksX8_stand_3 11 rfl rfl)
theorem dX8_stand_82 : decode cX8_stand 82 = .ok (.goto (-78), 3) := dk_167 255 178 (dk_at dksX8_stand_3 14 rfl rfl)
theorem dX8_stand_85 : decode cX8_stand 85 = .ok (.iconst 0, 1) := dk_3 (dk_at dksX8_stand_3 17 rfl rfl)
theorem dX8_stand_86 : decode cX8_stand 86 = .ok (.istore_n 2, 1) := dk_61 (dk_at dksX8_stand_3 18 rfl rfl)
theorem dX8_stand_87 : decode cX8_stand 87 = .ok (.iconst 0, 1) := dk_3 (dk_at dksX8_stand_3 19 rfl rfl)
theorem dX8_stand_88 : decode cX8_stand 88 = .ok (.istore_n 3, 1) := dk_62 (dk_at dksX8_stand_3 20 rfl rfl)
theorem dX8_stand_89 : decode cX8_stand 89 = .ok (.iload_n 3, 1) := dk_29 (dk_at dksX8_stand_3 21 rfl rfl)
theorem dX8_stand_90 : decode cX8_stand 90 = .ok (.aload_n 0, 1) := dk_42 (dk_at dksX8_stand_3 22 rfl rfl)
theorem dX8_stand_91 : decode cX8_stand 91 = .ok (.getfield 119, 3) := dk_180 0 119 (dk_at dksX8_stand_4 0 rfl rfl)
theorem dX8_stand_94 : decode cX8_stand 94 = .ok (.if_icmp .ge 34, 3) := dk_162 0 34 (dk_at dksX8_stand_4 3 rfl rfl)
theorem dX8_stand_97 : decode cX8_stand 97 = .ok (.iload_n 2, 1) := dk_28 (dk_at dksX8_stand_4 6 rfl rfl)
theorem dX8_stand_98 : decode cX8_stand 98 = .ok (.iload_n 3, 1) := dk_29 (dk_at dksX8_stand_4 7 rfl rfl)
theorem dX8_stand_99 : decode cX8_stand 99 = .ok (.iload_n 1, 1) := dk_27 (dk_at dksX8_stand_4 8 rfl rfl)
theorem dX8_stand_100 : decode cX8_stand 100 = .ok (.if_icmp .ge 17, 3) := dk_162 0 17 (dk_at dksX8_stand_4 9 rfl rfl)
theorem dX8_stand_103 : decode cX8_stand 103 = .ok (.aload_n 0, 1) := dk_42 (dk_at dksX8_stand_4 12 rfl rfl)
theorem dX8_stand_104 : decode cX8_stand 104 = .ok (.getfield 52, 3) := dk_180 0 52 (dk_at dksX8_stand_4 13 rfl rfl)
theorem dX8_stand_107 : decode cX8_stand 107 = .ok (.iload_n 3, 1) := dk_29 (dk_at dksX8_stand_4 16 rfl rfl)
theorem dX8_stand_108 : decode cX8_stand 108 = .ok (.iaload, 1) := dk_46 (dk_at dksX8_stand_4 17 rfl rfl)
theorem dX8_stand_109 : decode cX8_stand 109 = .ok (.aload_n 0, 1) := dk_42 (dk_at dksX8_stand_4 18 rfl rfl)
theorem dX8_stand_110 : decode cX8_stand 110 = .ok (.getfield 142, 3) := dk_180 0 142 (dk_at dksX8_stand_4 19 rfl rfl)
theorem dX8_stand_113 : decode cX8_stand 113 = .ok (.isub, 1) := dk_100 (dk_at dksX8_stand_4 22 rfl rfl)
theorem dX8_stand_114 : decode cX8_stand 114 = .ok (.goto 6, 3) := dk_167 0 6 (dk_at dksX8_stand_5 0 rfl rfl)
theorem dX8_stand_117 : decode cX8_stand 117 = .ok (.sipush 240, 3) := dk_17 0 240 (dk_at dksX8_stand_5 3 rfl rfl)
theorem dX8_stand_120 : decode cX8_stand 120 = .ok (.iadd, 1) := dk_96 (dk_at dksX8_stand_5 6 rfl rfl)
theorem dX8_stand_121 : decode cX8_stand 121 = .ok (.istore_n 2, 1) := dk_61 (dk_at dksX8_stand_5 7 rfl rfl)
theorem dX8_stand_122 : decode cX8_stand 122 = .ok (.iinc 3 1, 3) := dk_132 3 1 (dk_at dksX8_stand_5 8 rfl rfl)
theorem dX8_stand_125 : decode cX8_stand 125 = .ok (.goto (-36), 3) := dk_167 255 220 (dk_at dksX8_stand_5 11 rfl rfl)
theorem dX8_stand_128 : decode cX8_stand 128 = .ok (.iload_n 2, 1) := dk_28 (dk_at dksX8_stand_5 14 rfl rfl)
theorem dX8_stand_129 : decode cX8_stand 129 = .ok (.ireturn, 1) := dk_172 (dk_at dksX8_stand_5 15 rfl rfl)
abbrev cX8_heard : ByteArray := prog_16_method_48_code
def yX8_heard : MethodName := ⟨RX8, "heard", "(I)I"⟩
def dkwX8_heard_5 : List UInt8 := [4, 160, 0, 7, 4, 167, 0, 4, 3, 159, 0, 5, 29, 172, 132, 3, 1, 167, 255, 163, 2, 172]
abbrev dktX8_heard_5 : List UInt8 := dkwX8_heard_5 ++ []
def dkwX8_heard_4 : List UInt8 := [184, 0, 102, 153, 0, 33, 42, 180, 0, 25, 21, 4, 46, 154, 0, 23, 42, 21, 4, 182, 0, 151, 21, 5]
abbrev dktX8_heard_4 : List UInt8 := dkwX8_heard_4 ++ dktX8_heard_5
def dkwX8_heard_3 : List UInt8 := [27, 104, 5, 29, 104, 96, 4, 96, 46, 54, 5, 42, 21, 4, 182, 0, 112, 153, 0, 43, 21, 5, 3, 4]
abbrev dktX8_heard_3 : List UInt8 := dkwX8_heard_3 ++ dktX8_heard_4
def dkwX8_heard_2 : List UInt8 := [162, 0, 92, 42, 180, 0, 64, 16, 40, 27, 104, 5, 29, 104, 96, 46, 54, 4, 42, 180, 0, 64, 16, 40]
abbrev dktX8_heard_2 : List UInt8 := dkwX8_heard_2 ++ dktX8_heard_3
def dkwX8_heard_1 : List UInt8 := [172, 42, 180, 0, 61, 27, 46, 61, 28, 5, 112, 4, 160, 0, 6, 16, 254, 172, 3, 62, 29, 28, 5, 108]
abbrev dktX8_heard_1 : List UInt8 := dkwX8_heard_1 ++ dktX8_heard_2
def dkwX8_heard_0 : List UInt8 := [27, 3, 6, 184, 0, 102, 154, 0, 6, 16, 254, 172, 42, 180, 0, 58, 27, 46, 2, 160, 0, 6, 16, 245]
abbrev dktX8_heard_0 : List UInt8 := dkwX8_heard_0 ++ dktX8_heard_1
theorem dksX8_heard_0 : cX8_heard.data.toList.drop 0 = dktX8_heard_0 := by decide +kernel
theorem dksX8_heard_1 : cX8_heard.data.toList.drop 24 = dktX8_heard_1 := dk_seg dksX8_heard_0 24 rfl rfl
theorem dksX8_heard_2 : cX8_heard.data.toList.drop 48 = dktX8_heard_2 := dk_seg dksX8_heard_1 24 rfl rfl
theorem dksX8_heard_3 : cX8_heard.data.toList.drop 72 = dktX8_heard_3 := dk_seg dksX8_heard_2 24 rfl rfl
theorem dksX8_heard_4 : cX8_heard.data.toList.drop 96 = dktX8_heard_4 := dk_seg dksX8_heard_3 24 rfl rfl
theorem dksX8_heard_5 : cX8_heard.data.toList.drop 120 = dktX8_heard_5 := dk_seg dksX8_heard_4 24 rfl rfl
theorem dX8_heard_0 : decode cX8_heard 0 = .ok (.iload_n 1, 1) := dk_27 (dk_at dksX8_heard_0 0 rfl rfl)
theorem dX8_heard_1 : decode cX8_heard 1 = .ok (.iconst 0, 1) := dk_3 (dk_at dksX8_heard_0 1 rfl rfl)
theorem dX8_heard_2 : decode cX8_heard 2 = .ok (.iconst 3, 1) := dk_6 (dk_at dksX8_heard_0 2 rfl rfl)
theorem dX8_heard_3 : decode cX8_heard 3 = .ok (.invokestatic 102, 3) := dk_184 0 102 (dk_at dksX8_heard_0 3 rfl rfl)
theorem dX8_heard_6 : decode cX8_heard 6 = .ok (.ifCond .ne 6, 3) := dk_154 0 6 (dk_at dksX8_heard_0 6 rfl rfl)
theorem dX8_heard_9 : decode cX8_heard 9 = .ok (.bipush (-2), 2) := dk_16 254 (dk_at dksX8_heard_0 9 rfl rfl)
theorem dX8_heard_11 : decode cX8_heard 11 = .ok (.ireturn, 1) := dk_172 (dk_at dksX8_heard_0 11 rfl rfl)
theorem dX8_heard_12 : decode cX8_heard 12 = .ok (.aload_n 0, 1) := dk_42 (dk_at dksX8_heard_0 12 rfl rfl)
theorem dX8_heard_13 : decode cX8_heard 13 = .ok (.getfield 58, 3) := dk_180 0 58 (dk_at dksX8_heard_0 13 rfl rfl)
theorem dX8_heard_16 : decode cX8_heard 16 = .ok (.iload_n 1, 1) := dk_27 (dk_at dksX8_heard_0 16 rfl rfl)
theorem dX8_heard_17 : decode cX8_heard 17 = .ok (.iaload, 1) := dk_46 (dk_at dksX8_heard_0 17 rfl rfl)
theorem dX8_heard_18 : decode cX8_heard 18 = .ok (.iconst (-1), 1) := dk_2 (dk_at dksX8_heard_0 18 rfl rfl)
theorem dX8_heard_19 : decode cX8_heard 19 = .ok (.if_icmp .ne 6, 3) := dk_160 0 6 (dk_at dksX8_heard_0 19 rfl rfl)
theorem dX8_heard_22 : decode cX8_heard 22 = .ok (.bipush (-11), 2) := dk_16 245 (dk_at dksX8_heard_0 22 rfl rfl)
theorem dX8_heard_24 : decode cX8_heard 24 = .ok (.ireturn, 1) := dk_172 (dk_at dksX8_heard_1 0 rfl rfl)
theorem dX8_heard_25 : decode cX8_heard 25 = .ok (.aload_n 0, 1) := dk_42 (dk_at dksX8_heard_1 1 rfl rfl)
theorem dX8_heard_26 : decode cX8_heard 26 = .ok (.getfield 61, 3) := dk_180 0 61 (dk_at dksX8_heard_1 2 rfl rfl)
theorem dX8_heard_29 : decode cX8_heard 29 = .ok (.iload_n 1, 1) := dk_27 (dk_at dksX8_heard_1 5 rfl rfl)
theorem dX8_heard_30 : decode cX8_heard 30 = .ok (.iaload, 1) := dk_46 (dk_at dksX8_heard_1 6 rfl rfl)
theorem dX8_heard_31 : decode cX8_heard 31 = .ok (.istore_n 2, 1) := dk_61 (dk_at dksX8_heard_1 7 rfl rfl)
theorem dX8_heard_32 : decode cX8_heard 32 = .ok (.iload_n 2, 1) := dk_28 (dk_at dksX8_heard_1 8 rfl rfl)
theorem dX8_heard_33 : decode cX8_heard 33 = .ok (.iconst 2, 1) := dk_5 (dk_at dksX8_heard_1 9 rfl rfl)
theorem dX8_heard_34 : decode cX8_heard 34 = .ok (.irem, 1) := dk_112 (dk_at dksX8_heard_1 10 rfl rfl)
theorem dX8_heard_35 : decode cX8_heard 35 = .ok (.iconst 1, 1) := dk_4 (dk_at dksX8_heard_1 11 rfl rfl)
theorem dX8_heard_36 : decode cX8_heard 36 = .ok (.if_icmp .ne 6, 3) := dk_160 0 6 (dk_at dksX8_heard_1 12 rfl rfl)
theorem dX8_heard_39 : decode cX8_heard 39 = .ok (.bipush (-2), 2) := dk_16 254 (dk_at dksX8_heard_1 15 rfl rfl)
theorem dX8_heard_41 : decode cX8_heard 41 = .ok (.ireturn, 1) := dk_172 (dk_at dksX8_heard_1 17 rfl rfl)
theorem dX8_heard_42 : decode cX8_heard 42 = .ok (.iconst 0, 1) := dk_3 (dk_at dksX8_heard_1 18 rfl rfl)
theorem dX8_heard_43 : decode cX8_heard 43 = .ok (.istore_n 3, 1) := dk_62 (dk_at dksX8_heard_1 19 rfl rfl)
theorem dX8_heard_44 : decode cX8_heard 44 = .ok (.iload_n 3, 1) := dk_29 (dk_at dksX8_heard_1 20 rfl rfl)
theorem dX8_heard_45 : decode cX8_heard 45 = .ok (.iload_n 2, 1) := dk_28 (dk_at dksX8_heard_1 21 rfl rfl)
theorem dX8_heard_46 : decode cX8_heard 46 = .ok (.iconst 2, 1) := dk_5 (dk_at dksX8_heard_1 22 rfl rfl)
theorem dX8_heard_47 : decode cX8_heard 47 = .ok (.idiv, 1) := dk_108 (dk_at dksX8_heard_1 23 rfl rfl)
theorem dX8_heard_48 : decode cX8_heard 48 = .ok (.if_icmp .ge 92, 3) := dk_162 0 92 (dk_at dksX8_heard_2 0 rfl rfl)
theorem dX8_heard_51 : decode cX8_heard 51 = .ok (.aload_n 0, 1) := dk_42 (dk_at dksX8_heard_2 3 rfl rfl)
theorem dX8_heard_52 : decode cX8_heard 52 = .ok (.getfield 64, 3) := dk_180 0 64 (dk_at dksX8_heard_2 4 rfl rfl)
theorem dX8_heard_55 : decode cX8_heard 55 = .ok (.bipush 40, 2) := dk_16 40 (dk_at dksX8_heard_2 7 rfl rfl)
theorem dX8_heard_57 : decode cX8_heard 57 = .ok (.iload_n 1, 1) := dk_27 (dk_at dksX8_heard_2 9 rfl rfl)
theorem dX8_heard_58 : decode cX8_heard 58 = .ok (.imul, 1) := dk_104 (dk_at dksX8_heard_2 10 rfl rfl)
theorem dX8_heard_59 : decode cX8_heard 59 = .ok (.iconst 2, 1) := dk_5 (dk_at dksX8_heard_2 11 rfl rfl)
theorem dX8_heard_60 : decode cX8_heard 60 = .ok (.iload_n 3, 1) := dk_29 (dk_at dksX8_heard_2 12 rfl rfl)
theorem dX8_heard_61 : decode cX8_heard 61 = .ok (.imul, 1) := dk_104 (dk_at dksX8_heard_2 13 rfl rfl)
theorem dX8_heard_62 : decode cX8_heard 62 = .ok (.iadd, 1) := dk_96 (dk_at dksX8_heard_2 14 rfl rfl)
theorem dX8_heard_63 : decode cX8_heard 63 = .ok (.iaload, 1) := dk_46 (dk_at dksX8_heard_2 15 rfl rfl)
theorem dX8_heard_64 : decode cX8_heard 64 = .ok (.istore 4, 2) := dk_54 4 (dk_at dksX8_heard_2 16 rfl rfl)
theorem dX8_heard_66 : decode cX8_heard 66 = .ok (.aload_n 0, 1) := dk_42 (dk_at dksX8_heard_2 18 rfl rfl)
theorem dX8_heard_67 : decode cX8_heard 67 = .ok (.getfield 64, 3) := dk_180 0 64 (dk_at dksX8_heard_2 19 rfl rfl)
theorem dX8_heard_70 : decode cX8_heard 70 = .ok (.bipush 40, 2) := dk_16 40 (dk_at dksX8_heard_2 22 rfl rfl)
theorem dX8_heard_72 : decode cX8_heard 72 = .ok (.iload_n 1, 1) := dk_27 (dk_at dksX8_heard_3 0 rfl rfl)
theorem dX8_heard_73 : decode cX8_heard 73 = .ok (.imul, 1) := dk_104 (dk_at dksX8_heard_3 1 rfl rfl)
theorem dX8_heard_74 : decode cX8_heard 74 = .ok (.iconst 2, 1) := dk_5 (dk_at dksX8_heard_3 2 rfl rfl)
theorem dX8_heard_75 : decode cX8_heard 75 = .ok (.iload_n 3, 1) := dk_29 (dk_at dksX8_heard_3 3 rfl rfl)
theorem dX8_heard_76 : decode cX8_heard 76 = .ok (.imul, 1) := dk_104 (dk_at dksX8_heard_3 4 rfl rfl)
theorem dX8_heard_77 : decode cX8_heard 77 = .ok (.iadd, 1) := dk_96 (dk_at dksX8_heard_3 5 rfl rfl)
theorem dX8_heard_78 : decode cX8_heard 78 = .ok (.iconst 1, 1) := dk_4 (dk_at dksX8_heard_3 6 rfl rfl)
theorem dX8_heard_79 : decode cX8_heard 79 = .ok (.iadd, 1) := dk_96 (dk_at dksX8_heard_3 7 rfl rfl)
theorem dX8_heard_80 : decode cX8_heard 80 = .ok (.iaload, 1) := dk_46 (dk_at dksX8_heard_3 8 rfl rfl)
theorem dX8_heard_81 : decode cX8_heard 81 = .ok (.istore 5, 2) := dk_54 5 (dk_at dksX8_heard_3 9 rfl rfl)
theorem dX8_heard_83 : decode cX8_heard 83 = .ok (.aload_n 0, 1) := dk_42 (dk_at dksX8_heard_3 11 rfl rfl)
theorem dX8_heard_84 : decode cX8_heard 84 = .ok (.iload 4, 2) := dk_21 4 (dk_at dksX8_heard_3 12 rfl rfl)
theorem dX8_heard_86 : decode cX8_heard 86 = .ok (.invokevirtual 112, 3) := dk_182 0 112 (dk_at dksX8_heard_3 14 rfl rfl)
theorem dX8_heard_89 : decode cX8_heard 89 = .ok (.ifCond .eq 43, 3) := dk_153 0 43 (dk_at dksX8_heard_3 17 rfl rfl)
theorem dX8_heard_92 : decode cX8_heard 92 = .ok (.iload 5, 2) := dk_21 5 (dk_at dksX8_heard_3 20 rfl rfl)
theorem dX8_heard_94 : decode cX8_heard 94 = .ok (.iconst 0, 1) := dk_3 (dk_at dksX8_heard_3 22 rfl rfl)
theorem dX8_heard_95 : decode cX8_heard 95 = .ok (.iconst 1, 1) := dk_4 (dk_at dksX8_heard_3 23 rfl rfl)
theorem dX8_heard_96 : decode cX8_heard 96 = .ok (.invokestatic 102, 3) := dk_184 0 102 (dk_at dksX8_heard_4 0 rfl rfl)
theorem dX8_heard_99 : decode cX8_heard 99 = .ok (.ifCond .eq 33, 3) := dk_153 0 33 (dk_at dksX8_heard_4 3 rfl rfl)
theorem dX8_heard_102 : decode cX8_heard 102 = .ok (.aload_n 0, 1) := dk_42 (dk_at dksX8_heard_4 6 rfl rfl)
theorem dX8_heard_103 : decode cX8_heard 103 = .ok (.getfield 25, 3) := dk_180 0 25 (dk_at dksX8_heard_4 7 rfl rfl)
theorem dX8_heard_106 : decode cX8_heard 106 = .ok (.iload 4, 2) := dk_21 4 (dk_at dksX8_heard_4 10 rfl rfl)
theorem dX8_heard_108 : decode cX8_heard 108 = .ok (.iaload, 1) := dk_46 (dk_at dksX8_heard_4 12 rfl rfl)
theorem dX8_heard_109 : decode cX8_heard 109 = .ok (.ifCond .ne 23, 3) := dk_154 0 23 (dk_at dksX8_heard_4 13 rfl rfl)
theorem dX8_heard_112 : decode cX8_heard 112 = .ok (.aload_n 0, 1) := dk_42 (dk_at dksX8_heard_4 16 rfl rfl)
theorem dX8_heard_113 : decode cX8_heard 113 = .ok (.iload 4, 2) := dk_21 4 (dk_at dksX8_heard_4 17 rfl rfl)
theorem dX8_heard_115 : decode cX8_heard 115 = .ok (.invokevirtual 151, 3) := dk_182 0 151 (dk_at dksX8_heard_4 19 rfl rfl)
theorem dX8_heard_118 : decode cX8_heard 118 = .ok (.iload 5, 2) := dk_21 5 (dk_at dksX8_heard_4 22 rfl rfl)
theorem dX8_heard_120 : decode cX8_heard 120 = .ok (.iconst 1, 1) := dk_4 (dk_at dksX8_heard_5 0 rfl rfl)
theorem dX8_heard_121 : decode cX8_heard 121 = .ok (.if_icmp .ne 7, 3) := dk_160 0 7 (dk_at dksX8_heard_5 1 rfl rfl)
theorem dX8_heard_124 : decode cX8_heard 124 = .ok (.iconst 1, 1) := dk_4 (dk_at dksX8_heard_5 4 rfl rfl)
theorem dX8_heard_125 : decode cX8_heard 125 = .ok (.goto 4, 3) := dk_167 0 4 (dk_at dksX8_heard_5 5 rfl rfl)
theorem dX8_heard_128 : decode cX8_heard 128 = .ok (.iconst 0, 1) := dk_3 (dk_at dksX8_heard_5 8 rfl rfl)
theorem dX8_heard_129 : decode cX8_heard 129 = .ok (.if_icmp .eq 5, 3) := dk_159 0 5 (dk_at dksX8_heard_5 9 rfl rfl)
theorem dX8_heard_132 : decode cX8_heard 132 = .ok (.iload_n 3, 1) := dk_29 (dk_at dksX8_heard_5 12 rfl rfl)
theorem dX8_heard_133 : decode cX8_heard 133 = .ok (.ireturn, 1) := dk_172 (dk_at dksX8_heard_5 13 rfl rfl)
theorem dX8_heard_134 : decode cX8_heard 134 = .ok (.iinc 3 1, 3) := dk_132 3 1 (dk_at dksX8_heard_5 14 rfl rfl)
theorem dX8_heard_137 : decode cX8_heard 137 = .ok (.goto (-93), 3) := dk_167 255 163 (dk_at dksX8_heard_5 17 rfl rfl)
theorem dX8_heard_140 : decode cX8_heard 140 = .ok (.iconst (-1), 1) := dk_2 (dk_at dksX8_heard_5 20 rfl rfl)
theorem dX8_heard_141 : decode cX8_heard 141 = .ok (.ireturn, 1) := dk_172 (dk_at dksX8_heard_5 21 rfl rfl)
abbrev cX8_where : ByteArray := prog_16_method_49_code
def yX8_where : MethodName := ⟨RX8, "where", "(II)I"⟩
def dkwX8_where_2 : List UInt8 := [182, 0, 145, 153, 0, 10, 29, 4, 21, 4, 120, 128, 62, 132, 4, 1, 167, 255, 220, 29, 172]
abbrev dktX8_where_2 : List UInt8 := dkwX8_where_2 ++ []
def dkwX8_where_1 : List UInt8 := [54, 4, 21, 4, 16, 8, 162, 0, 35, 42, 27, 16, 8, 28, 104, 21, 4, 96, 42, 180, 0, 142]
abbrev dktX8_where_1 : List UInt8 := dkwX8_where_1 ++ dktX8_where_2
def dkwX8_where_0 : List UInt8 := [42, 27, 182, 0, 112, 153, 0, 12, 28, 3, 8, 184, 0, 102, 154, 0, 6, 16, 254, 172, 3, 62, 3]
abbrev dktX8_where_0 : List UInt8 := dkwX8_where_0 ++ dktX8_where_1
theorem dksX8_where_0 : cX8_where.data.toList.drop 0 = dktX8_where_0 := by decide +kernel
theorem dksX8_where_1 : cX8_where.data.toList.drop 23 = dktX8_where_1 := dk_seg dksX8_where_0 23 rfl rfl
theorem dksX8_where_2 : cX8_where.data.toList.drop 45 = dktX8_where_2 := dk_seg dksX8_where_1 22 rfl rfl
theorem dX8_where_0 : decode cX8_where 0 = .ok (.aload_n 0, 1) := dk_42 (dk_at dksX8_where_0 0 rfl rfl)
theorem dX8_where_1 : decode cX8_where 1 = .ok (.iload_n 1, 1) := dk_27 (dk_at dksX8_where_0 1 rfl rfl)
theorem dX8_where_2 : decode cX8_where 2 = .ok (.invokevirtual 112, 3) := dk_182 0 112 (dk_at dksX8_where_0 2 rfl rfl)
theorem dX8_where_5 : decode cX8_where 5 = .ok (.ifCond .eq 12, 3) := dk_153 0 12 (dk_at dksX8_where_0 5 rfl rfl)
theorem dX8_where_8 : decode cX8_where 8 = .ok (.iload_n 2, 1) := dk_28 (dk_at dksX8_where_0 8 rfl rfl)
theorem dX8_where_9 : decode cX8_where 9 = .ok (.iconst 0, 1) := dk_3 (dk_at dksX8_where_0 9 rfl rfl)
theorem dX8_where_10 : decode cX8_where 10 = .ok (.iconst 5, 1) := dk_8 (dk_at dksX8_where_0 10 rfl rfl)
theorem dX8_where_11 : decode cX8_where 11 = .ok (.invokestatic 102, 3) := dk_184 0 102 (dk_at dksX8_where_0 11 rfl rfl)
theorem dX8_where_14 : decode cX8_where 14 = .ok (.ifCond .ne 6, 3) := dk_154 0 6 (dk_at dksX8_where_0 14 rfl rfl)
theorem dX8_where_17 : decode cX8_where 17 = .ok (.bipush (-2), 2) := dk_16 254 (dk_at dksX8_where_0 17 rfl rfl)
theorem dX8_where_19 : decode cX8_where 19 = .ok (.ireturn, 1) := dk_172 (dk_at dksX8_where_0 19 rfl rfl)
theorem dX8_where_20 : decode cX8_where 20 = .ok (.iconst 0, 1) := dk_3 (dk_at dksX8_where_0 20 rfl rfl)
theorem dX8_where_21 : decode cX8_where 21 = .ok (.istore_n 3, 1) := dk_62 (dk_at dksX8_where_0 21 rfl rfl)
theorem dX8_where_22 : decode cX8_where 22 = .ok (.iconst 0, 1) := dk_3 (dk_at dksX8_where_0 22 rfl rfl)
theorem dX8_where_23 : decode cX8_where 23 = .ok (.istore 4, 2) := dk_54 4 (dk_at dksX8_where_1 0 rfl rfl)
theorem dX8_where_25 : decode cX8_where 25 = .ok (.iload 4, 2) := dk_21 4 (dk_at dksX8_where_1 2 rfl rfl)
theorem dX8_where_27 : decode cX8_where 27 = .ok (.bipush 8, 2) := dk_16 8 (dk_at dksX8_where_1 4 rfl rfl)
theorem dX8_where_29 : decode cX8_where 29 = .ok (.if_icmp .ge 35, 3) := dk_162 0 35 (dk_at dksX8_where_1 6 rfl rfl)
theorem dX8_where_32 : decode cX8_where 32 = .ok (.aload_n 0, 1) := dk_42 (dk_at dksX8_where_1 9 rfl rfl)
theorem dX8_where_33 : decode cX8_where 33 = .ok (.iload_n 1, 1) := dk_27 (dk_at dksX8_where_1 10 rfl rfl)
theorem dX8_where_34 : decode cX8_where 34 = .ok (.bipush 8, 2) := dk_16 8 (dk_at dksX8_where_1 11 rfl rfl)
theorem dX8_where_36 : decode cX8_where 36 = .ok (.iload_n 2, 1) := dk_28 (dk_at dksX8_where_1 13 rfl rfl)
theorem dX8_where_37 : decode cX8_where 37 = .ok (.imul, 1) := dk_104 (dk_at dksX8_where_1 14 rfl rfl)
theorem dX8_where_38 : decode cX8_where 38 = .ok (.iload 4, 2) := dk_21 4 (dk_at dksX8_where_1 15 rfl rfl)
theorem dX8_where_40 : decode cX8_where 40 = .ok (.iadd, 1) := dk_96 (dk_at dksX8_where_1 17 rfl rfl)
theorem dX8_where_41 : decode cX8_where 41 = .ok (.aload_n 0, 1) := dk_42 (dk_at dksX8_where_1 18 rfl rfl)
theorem dX8_where_42 : decode cX8_where 42 = .ok (.getfield 142, 3) := dk_180 0 142 (dk_at dksX8_where_1 19 rfl rfl)
theorem dX8_where_45 : decode cX8_where 45 = .ok (.invokevirtual 145, 3) := dk_182 0 145 (dk_at dksX8_where_2 0 rfl rfl)
theorem dX8_where_48 : decode cX8_where 48 = .ok (.ifCond .eq 10, 3) := dk_153 0 10 (dk_at dksX8_where_2 3 rfl rfl)
theorem dX8_where_51 : decode cX8_where 51 = .ok (.iload_n 3, 1) := dk_29 (dk_at dksX8_where_2 6 rfl rfl)
theorem dX8_where_52 : decode cX8_where 52 = .ok (.iconst 1, 1) := dk_4 (dk_at dksX8_where_2 7 rfl rfl)
theorem dX8_where_53 : decode cX8_where 53 = .ok (.iload 4, 2) := dk_21 4 (dk_at dksX8_where_2 8 rfl rfl)
theorem dX8_where_55 : decode cX8_where 55 = .ok (.ishl, 1) := dk_120 (dk_at dksX8_where_2 10 rfl rfl)
theorem dX8_where_56 : decode cX8_where 56 = .ok (.ior, 1) := dk_128 (dk_at dksX8_where_2 11 rfl rfl)
theorem dX8_where_57 : decode cX8_where 57 = .ok (.istore_n 3, 1) := dk_62 (dk_at dksX8_where_2 12 rfl rfl)
theorem dX8_where_58 : decode cX8_where 58 = .ok (.iinc 4 1, 3) := dk_132 4 1 (dk_at dksX8_where_2 13 rfl rfl)
theorem dX8_where_61 : decode cX8_where 61 = .ok (.goto (-36), 3) := dk_167 255 220 (dk_at dksX8_where_2 16 rfl rfl)
theorem dX8_where_64 : decode cX8_where 64 = .ok (.iload_n 3, 1) := dk_29 (dk_at dksX8_where_2 19 rfl rfl)
theorem dX8_where_65 : decode cX8_where 65 = .ok (.ireturn, 1) := dk_172 (dk_at dksX8_where_2 20 rfl rfl)
abbrev cX8_drawn : ByteArray := prog_16_method_50_code
def yX8_drawn : MethodName := ⟨RX8, "drawn", "(I)I"⟩
def dkwX8_drawn_3 : List UInt8 := [172]
abbrev dktX8_drawn_3 : List UInt8 := dkwX8_drawn_3 ++ []
def dkwX8_drawn_2 : List UInt8 := [42, 21, 4, 182, 0, 151, 153, 0, 6, 132, 3, 1, 132, 4, 1, 167, 255, 222, 42, 28, 181, 0, 116, 29]
abbrev dktX8_drawn_2 : List UInt8 := dkwX8_drawn_2 ++ dktX8_drawn_3
def dkwX8_drawn_1 : List UInt8 := [3, 62, 3, 54, 4, 21, 4, 42, 180, 0, 99, 162, 0, 31, 42, 180, 0, 25, 21, 4, 46, 154, 0, 15]
abbrev dktX8_drawn_1 : List UInt8 := dkwX8_drawn_1 ++ dktX8_drawn_2
def dkwX8_drawn_0 : List UInt8 := [42, 180, 0, 116, 61, 42, 27, 19, 1, 27, 104, 17, 48, 57, 96, 16, 10, 124, 16, 10, 112, 181, 0, 116]
abbrev dktX8_drawn_0 : List UInt8 := dkwX8_drawn_0 ++ dktX8_drawn_1
theorem dksX8_drawn_0 : cX8_drawn.data.toList.drop 0 = dktX8_drawn_0 := by decide +kernel
theorem dksX8_drawn_1 : cX8_drawn.data.toList.drop 24 = dktX8_drawn_1 := dk_seg dksX8_drawn_0 24 rfl rfl
theorem dksX8_drawn_2 : cX8_drawn.data.toList.drop 48 = dktX8_drawn_2 := dk_seg dksX8_drawn_1 24 rfl rfl
theorem dksX8_drawn_3 : cX8_drawn.data.toList.drop 72 = dktX8_drawn_3 := dk_seg dksX8_drawn_2 24 rfl rfl
theorem dX8_drawn_0 : decode cX8_drawn 0 = .ok (.aload_n 0, 1) := dk_42 (dk_at dksX8_drawn_0 0 rfl rfl)
theorem dX8_drawn_1 : decode cX8_drawn 1 = .ok (.getfield 116, 3) := dk_180 0 116 (dk_at dksX8_drawn_0 1 rfl rfl)
theorem dX8_drawn_4 : decode cX8_drawn 4 = .ok (.istore_n 2, 1) := dk_61 (dk_at dksX8_drawn_0 4 rfl rfl)
theorem dX8_drawn_5 : decode cX8_drawn 5 = .ok (.aload_n 0, 1) := dk_42 (dk_at dksX8_drawn_0 5 rfl rfl)
theorem dX8_drawn_6 : decode cX8_drawn 6 = .ok (.iload_n 1, 1) := dk_27 (dk_at dksX8_drawn_0 6 rfl rfl)
theorem dX8_drawn_7 : decode cX8_drawn 7 = .ok (.ldc_w 283, 3) := dk_19 1 27 (dk_at dksX8_drawn_0 7 rfl rfl)
theorem dX8_drawn_10 : decode cX8_drawn 10 = .ok (.imul, 1) := dk_104 (dk_at dksX8_drawn_0 10 rfl rfl)
theorem dX8_drawn_11 : decode cX8_drawn 11 = .ok (.sipush 12345, 3) := dk_17 48 57 (dk_at dksX8_drawn_0 11 rfl rfl)
theorem dX8_drawn_14 : decode cX8_drawn 14 = .ok (.iadd, 1) := dk_96 (dk_at dksX8_drawn_0 14 rfl rfl)
theorem dX8_drawn_15 : decode cX8_drawn 15 = .ok (.bipush 10, 2) := dk_16 10 (dk_at dksX8_drawn_0 15 rfl rfl)
theorem dX8_drawn_17 : decode cX8_drawn 17 = .ok (.iushr, 1) := dk_124 (dk_at dksX8_drawn_0 17 rfl rfl)
theorem dX8_drawn_18 : decode cX8_drawn 18 = .ok (.bipush 10, 2) := dk_16 10 (dk_at dksX8_drawn_0 18 rfl rfl)
theorem dX8_drawn_20 : decode cX8_drawn 20 = .ok (.irem, 1) := dk_112 (dk_at dksX8_drawn_0 20 rfl rfl)
theorem dX8_drawn_21 : decode cX8_drawn 21 = .ok (.putfield 116, 3) := dk_181 0 116 (dk_at dksX8_drawn_0 21 rfl rfl)
theorem dX8_drawn_24 : decode cX8_drawn 24 = .ok (.iconst 0, 1) := dk_3 (dk_at dksX8_drawn_1 0 rfl rfl)
theorem dX8_drawn_25 : decode cX8_drawn 25 = .ok (.istore_n 3, 1) := dk_62 (dk_at dksX8_drawn_1 1 rfl rfl)
theorem dX8_drawn_26 : decode cX8_drawn 26 = .ok (.iconst 0, 1) := dk_3 (dk_at dksX8_drawn_1 2 rfl rfl)
theorem dX8_drawn_27 : decode cX8_drawn 27 = .ok (.istore 4, 2) := dk_54 4 (dk_at dksX8_drawn_1 3 rfl rfl)
theorem dX8_drawn_29 : decode cX8_drawn 29 = .ok (.iload 4, 2) := dk_21 4 (dk_at dksX8_drawn_1 5 rfl rfl)
theorem dX8_drawn_31 : decode cX8_drawn 31 = .ok (.aload_n 0, 1) := dk_42 (dk_at dksX8_drawn_1 7 rfl rfl)
theorem dX8_drawn_32 : decode cX8_drawn 32 = .ok (.getfield 99, 3) := dk_180 0 99 (dk_at dksX8_drawn_1 8 rfl rfl)
theorem dX8_drawn_35 : decode cX8_drawn 35 = .ok (.if_icmp .ge 31, 3) := dk_162 0 31 (dk_at dksX8_drawn_1 11 rfl rfl)
theorem dX8_drawn_38 : decode cX8_drawn 38 = .ok (.aload_n 0, 1) := dk_42 (dk_at dksX8_drawn_1 14 rfl rfl)
theorem dX8_drawn_39 : decode cX8_drawn 39 = .ok (.getfield 25, 3) := dk_180 0 25 (dk_at dksX8_drawn_1 15 rfl rfl)
theorem dX8_drawn_42 : decode cX8_drawn 42 = .ok (.iload 4, 2) := dk_21 4 (dk_at dksX8_drawn_1 18 rfl rfl)
theorem dX8_drawn_44 : decode cX8_drawn 44 = .ok (.iaload, 1) := dk_46 (dk_at dksX8_drawn_1 20 rfl rfl)
theorem dX8_drawn_45 : decode cX8_drawn 45 = .ok (.ifCond .ne 15, 3) := dk_154 0 15 (dk_at dksX8_drawn_1 21 rfl rfl)
theorem dX8_drawn_48 : decode cX8_drawn 48 = .ok (.aload_n 0, 1) := dk_42 (dk_at dksX8_drawn_2 0 rfl rfl)
theorem dX8_drawn_49 : decode cX8_drawn 49 = .ok (.iload 4, 2) := dk_21 4 (dk_at dksX8_drawn_2 1 rfl rfl)
theorem dX8_drawn_51 : decode cX8_drawn 51 = .ok (.invokevirtual 151, 3) := dk_182 0 151 (dk_at dksX8_drawn_2 3 rfl rfl)
theorem dX8_drawn_54 : decode cX8_drawn 54 = .ok (.ifCond .eq 6, 3) := dk_153 0 6 (dk_at dksX8_drawn_2 6 rfl rfl)
theorem dX8_drawn_57 : decode cX8_drawn 57 = .ok (.iinc 3 1, 3) := dk_132 3 1 (dk_at dksX8_drawn_2 9 rfl rfl)
theorem dX8_drawn_60 : decode cX8_drawn 60 = .ok (.iinc 4 1, 3) := dk_132 4 1 (dk_at dksX8_drawn_2 12 rfl rfl)
theorem dX8_drawn_63 : decode cX8_drawn 63 = .ok (.goto (-34), 3) := dk_167 255 222 (dk_at dksX8_drawn_2 15 rfl rfl)
theorem dX8_drawn_66 : decode cX8_drawn 66 = .ok (.aload_n 0, 1) := dk_42 (dk_at dksX8_drawn_2 18 rfl rfl)
theorem dX8_drawn_67 : decode cX8_drawn 67 = .ok (.iload_n 2, 1) := dk_28 (dk_at dksX8_drawn_2 19 rfl rfl)
theorem dX8_drawn_68 : decode cX8_drawn 68 = .ok (.putfield 116, 3) := dk_181 0 116 (dk_at dksX8_drawn_2 20 rfl rfl)
theorem dX8_drawn_71 : decode cX8_drawn 71 = .ok (.iload_n 3, 1) := dk_29 (dk_at dksX8_drawn_2 23 rfl rfl)
theorem dX8_drawn_72 : decode cX8_drawn 72 = .ok (.ireturn, 1) := dk_172 (dk_at dksX8_drawn_3 0 rfl rfl)
abbrev cX8_chance : ByteArray := prog_16_method_52_code
def yX8_chance : MethodName := ⟨RX8, "chance", "(III)J"⟩
def dkwX8_chance_4 : List UInt8 := [133, 29, 184, 1, 33, 173]
abbrev dktX8_chance_4 : List UInt8 := dkwX8_chance_4 ++ []
def dkwX8_chance_3 : List UInt8 := [21, 6, 96, 182, 1, 30, 21, 4, 160, 0, 6, 132, 5, 1, 132, 6, 1, 167, 255, 231, 21, 5, 133, 28]
abbrev dktX8_chance_3 : List UInt8 := dkwX8_chance_3 ++ dktX8_chance_4
def dkwX8_chance_2 : List UInt8 := [132, 4, 1, 132, 5, 1, 167, 255, 231, 3, 54, 5, 3, 54, 6, 21, 6, 28, 162, 0, 25, 42, 27]
abbrev dktX8_chance_2 : List UInt8 := dkwX8_chance_2 ++ dktX8_chance_3
def dkwX8_chance_1 : List UInt8 := [54, 4, 3, 54, 5, 21, 5, 42, 180, 0, 99, 162, 0, 22, 42, 180, 0, 25, 21, 5, 46, 154, 0, 6]
abbrev dktX8_chance_1 : List UInt8 := dkwX8_chance_1 ++ dktX8_chance_2
def dkwX8_chance_0 : List UInt8 := [28, 4, 16, 20, 184, 0, 102, 153, 0, 12, 29, 3, 4, 184, 0, 102, 154, 0, 7, 20, 1, 28, 173, 3]
abbrev dktX8_chance_0 : List UInt8 := dkwX8_chance_0 ++ dktX8_chance_1
theorem dksX8_chance_0 : cX8_chance.data.toList.drop 0 = dktX8_chance_0 := by decide +kernel
theorem dksX8_chance_1 : cX8_chance.data.toList.drop 24 = dktX8_chance_1 := dk_seg dksX8_chance_0 24 rfl rfl
theorem dksX8_chance_2 : cX8_chance.data.toList.drop 48 = dktX8_chance_2 := dk_seg dksX8_chance_1 24 rfl rfl
theorem dksX8_chance_3 : cX8_chance.data.toList.drop 71 = dktX8_chance_3 := dk_seg dksX8_chance_2 23 rfl rfl
theorem dksX8_chance_4 : cX8_chance.data.toList.drop 95 = dktX8_chance_4 := dk_seg dksX8_chance_3 24 rfl rfl
theorem dX8_chance_0 : decode cX8_chance 0 = .ok (.iload_n 2, 1) := dk_28 (dk_at dksX8_chance_0 0 rfl rfl)
theorem dX8_chance_1 : decode cX8_chance 1 = .ok (.iconst 1, 1) := dk_4 (dk_at dksX8_chance_0 1 rfl rfl)
theorem dX8_chance_2 : decode cX8_chance 2 = .ok (.bipush 20, 2) := dk_16 20 (dk_at dksX8_chance_0 2 rfl rfl)
theorem dX8_chance_4 : decode cX8_chance 4 = .ok (.invokestatic 102, 3) := dk_184 0 102 (dk_at dksX8_chance_0 4 rfl rfl)
theorem dX8_chance_7 : decode cX8_chance 7 = .ok (.ifCond .eq 12, 3) := dk_153 0 12 (dk_at dksX8_chance_0 7 rfl rfl)
theorem dX8_chance_10 : decode cX8_chance 10 = .ok (.iload_n 3, 1) := dk_29 (dk_at dksX8_chance_0 10 rfl rfl)
theorem dX8_chance_11 : decode cX8_chance 11 = .ok (.iconst 0, 1) := dk_3 (dk_at dksX8_chance_0 11 rfl rfl)
theorem dX8_chance_12 : decode cX8_chance 12 = .ok (.iconst 1, 1) := dk_4 (dk_at dksX8_chance_0 12 rfl rfl)
theorem dX8_chance_13 : decode cX8_chance 13 = .ok (.invokestatic 102, 3) := dk_184 0 102 (dk_at dksX8_chance_0 13 rfl rfl)
theorem dX8_chance_16 : decode cX8_chance 16 = .ok (.ifCond .ne 7, 3) := dk_154 0 7 (dk_at dksX8_chance_0 16 rfl rfl)
theorem dX8_chance_19 : decode cX8_chance 19 = .ok (.ldc2_w 284, 3) := dk_20 1 28 (dk_at dksX8_chance_0 19 rfl rfl)
theorem dX8_chance_22 : decode cX8_chance 22 = .ok (.lreturn, 1) := dk_173 (dk_at dksX8_chance_0 22 rfl rfl)
theorem dX8_chance_23 : decode cX8_chance 23 = .ok (.iconst 0, 1) := dk_3 (dk_at dksX8_chance_0 23 rfl rfl)
theorem dX8_chance_24 : decode cX8_chance 24 = .ok (.istore 4, 2) := dk_54 4 (dk_at dksX8_chance_1 0 rfl rfl)
theorem dX8_chance_26 : decode cX8_chance 26 = .ok (.iconst 0, 1) := dk_3 (dk_at dksX8_chance_1 2 rfl rfl)
theorem dX8_chance_27 : decode cX8_chance 27 = .ok (.istore 5, 2) := dk_54 5 (dk_at dksX8_chance_1 3 rfl rfl)
theorem dX8_chance_29 : decode cX8_chance 29 = .ok (.iload 5, 2) := dk_21 5 (dk_at dksX8_chance_1 5 rfl rfl)
theorem dX8_chance_31 : decode cX8_chance 31 = .ok (.aload_n 0, 1) := dk_42 (dk_at dksX8_chance_1 7 rfl rfl)
theorem dX8_chance_32 : decode cX8_chance 32 = .ok (.getfield 99, 3) := dk_180 0 99 (dk_at dksX8_chance_1 8 rfl rfl)
theorem dX8_chance_35 : decode cX8_chance 35 = .ok (.if_icmp .ge 22, 3) := dk_162 0 22 (dk_at dksX8_chance_1 11 rfl rfl)
theorem dX8_chance_38 : decode cX8_chance 38 = .ok (.aload_n 0, 1) := dk_42 (dk_at dksX8_chance_1 14 rfl rfl)
theorem dX8_chance_39 : decode cX8_chance 39 = .ok (.getfield 25, 3) := dk_180 0 25 (dk_at dksX8_chance_1 15 rfl rfl)
theorem dX8_chance_42 : decode cX8_chance 42 = .ok (.iload 5, 2) := dk_21 5 (dk_at dksX8_chance_1 18 rfl rfl)
theorem dX8_chance_44 : decode cX8_chance 44 = .ok (.iaload, 1) := dk_46 (dk_at dksX8_chance_1 20 rfl rfl)
theorem dX8_chance_45 : decode cX8_chance 45 = .ok (.ifCond .ne 6, 3) := dk_154 0 6 (dk_at dksX8_chance_1 21 rfl rfl)
theorem dX8_chance_48 : decode cX8_chance 48 = .ok (.iinc 4 1, 3) := dk_132 4 1 (dk_at dksX8_chance_2 0 rfl rfl)
theorem dX8_chance_51 : decode cX8_chance 51 = .ok (.iinc 5 1, 3) := dk_132 5 1 (dk_at dksX8_chance_2 3 rfl rfl)
theorem dX8_chance_54 : decode cX8_chance 54 = .ok (.goto (-25), 3) := dk_167 255 231 (dk_at dksX8_chance_2 6 rfl rfl)
theorem dX8_chance_57 : decode cX8_chance 57 = .ok (.iconst 0, 1) := dk_3 (dk_at dksX8_chance_2 9 rfl rfl)
theorem dX8_chance_58 : decode cX8_chance 58 = .ok (.istore 5, 2) := dk_54 5 (dk_at dksX8_chance_2 10 rfl rfl)
theorem dX8_chance_60 : decode cX8_chance 60 = .ok (.iconst 0, 1) := dk_3 (dk_at dksX8_chance_2 12 rfl rfl)
theorem dX8_chance_61 : decode cX8_chance 61 = .ok (.istore 6, 2) := dk_54 6 (dk_at dksX8_chance_2 13 rfl rfl)
theorem dX8_chance_63 : decode cX8_chance 63 = .ok (.iload 6, 2) := dk_21 6 (dk_at dksX8_chance_2 15 rfl rfl)
theorem dX8_chance_65 : decode cX8_chance 65 = .ok (.iload_n 2, 1) := dk_28 (dk_at dksX8_chance_2 17 rfl rfl)
theorem dX8_chance_66 : decode cX8_chance 66 = .ok (.if_icmp .ge 25, 3) := dk_162 0 25 (dk_at dksX8_chance_2 18 rfl rfl)
theorem dX8_chance_69 : decode cX8_chance 69 = .ok (.aload_n 0, 1) := dk_42 (dk_at dksX8_chance_2 21 rfl rfl)
theorem dX8_chance_70 : decode cX8_chance 70 = .ok (.iload_n 1, 1) := dk_27 (dk_at dksX8_chance_2 22 rfl rfl)
theorem dX8_chance_71 : decode cX8_chance 71 = .ok (.iload 6, 2) := dk_21 6 (dk_at dksX8_chance_3 0 rfl rfl)
theorem dX8_chance_73 : decode cX8_chance 73 = .ok (.iadd, 1) := dk_96 (dk_at dksX8_chance_3 2 rfl rfl)
theorem dX8_chance_74 : decode cX8_chance 74 = .ok (.invokevirtual 286, 3) := dk_182 1 30 (dk_at dksX8_chance_3 3 rfl rfl)
theorem dX8_chance_77 : decode cX8_chance 77 = .ok (.iload 4, 2) := dk_21 4 (dk_at dksX8_chance_3 6 rfl rfl)
theorem dX8_chance_79 : decode cX8_chance 79 = .ok (.if_icmp .ne 6, 3) := dk_160 0 6 (dk_at dksX8_chance_3 8 rfl rfl)
theorem dX8_chance_82 : decode cX8_chance 82 = .ok (.iinc 5 1, 3) := dk_132 5 1 (dk_at dksX8_chance_3 11 rfl rfl)
theorem dX8_chance_85 : decode cX8_chance 85 = .ok (.iinc 6 1, 3) := dk_132 6 1 (dk_at dksX8_chance_3 14 rfl rfl)
theorem dX8_chance_88 : decode cX8_chance 88 = .ok (.goto (-25), 3) := dk_167 255 231 (dk_at dksX8_chance_3 17 rfl rfl)
theorem dX8_chance_91 : decode cX8_chance 91 = .ok (.iload 5, 2) := dk_21 5 (dk_at dksX8_chance_3 20 rfl rfl)
theorem dX8_chance_93 : decode cX8_chance 93 = .ok (.i2l, 1) := dk_133 (dk_at dksX8_chance_3 22 rfl rfl)
theorem dX8_chance_94 : decode cX8_chance 94 = .ok (.iload_n 2, 1) := dk_28 (dk_at dksX8_chance_3 23 rfl rfl)
theorem dX8_chance_95 : decode cX8_chance 95 = .ok (.i2l, 1) := dk_133 (dk_at dksX8_chance_4 0 rfl rfl)
theorem dX8_chance_96 : decode cX8_chance 96 = .ok (.iload_n 3, 1) := dk_29 (dk_at dksX8_chance_4 1 rfl rfl)
theorem dX8_chance_97 : decode cX8_chance 97 = .ok (.invokestatic 289, 3) := dk_184 1 33 (dk_at dksX8_chance_4 2 rfl rfl)
theorem dX8_chance_100 : decode cX8_chance 100 = .ok (.lreturn, 1) := dk_173 (dk_at dksX8_chance_4 5 rfl rfl)
abbrev cX8_lowest : ByteArray := prog_16_method_51_code
def yX8_lowest : MethodName := ⟨RX8, "lowest", "(JJI)J"⟩
def dkwX8_lowest_1 : List UInt8 := [22, 9, 55, 7, 167, 255, 234, 21, 4, 154, 0, 10, 30, 22, 5, 109, 167, 0, 7, 32, 22, 5, 109, 173]
abbrev dktX8_lowest_1 : List UInt8 := dkwX8_lowest_1 ++ []
def dkwX8_lowest_0 : List UInt8 := [30, 55, 5, 32, 55, 7, 22, 7, 9, 148, 153, 0, 21, 22, 5, 22, 7, 113, 55, 9, 22, 7, 55, 5]
abbrev dktX8_lowest_0 : List UInt8 := dkwX8_lowest_0 ++ dktX8_lowest_1
theorem dksX8_lowest_0 : cX8_lowest.data.toList.drop 0 = dktX8_lowest_0 := by decide +kernel
theorem dksX8_lowest_1 : cX8_lowest.data.toList.drop 24 = dktX8_lowest_1 := dk_seg dksX8_lowest_0 24 rfl rfl
theorem dX8_lowest_0 : decode cX8_lowest 0 = .ok (.lload_n 0, 1) := dk_30 (dk_at dksX8_lowest_0 0 rfl rfl)
theorem dX8_lowest_1 : decode cX8_lowest 1 = .ok (.lstore 5, 2) := dk_55 5 (dk_at dksX8_lowest_0 1 rfl rfl)
theorem dX8_lowest_3 : decode cX8_lowest 3 = .ok (.lload_n 2, 1) := dk_32 (dk_at dksX8_lowest_0 3 rfl rfl)
theorem dX8_lowest_4 : decode cX8_lowest 4 = .ok (.lstore 7, 2) := dk_55 7 (dk_at dksX8_lowest_0 4 rfl rfl)
theorem dX8_lowest_6 : decode cX8_lowest 6 = .ok (.lload 7, 2) := dk_22 7 (dk_at dksX8_lowest_0 6 rfl rfl)
theorem dX8_lowest_8 : decode cX8_lowest 8 = .ok (.lconst 0, 1) := dk_9 (dk_at dksX8_lowest_0 8 rfl rfl)
theorem dX8_lowest_9 : decode cX8_lowest 9 = .ok (.lcmp, 1) := dk_148 (dk_at dksX8_lowest_0 9 rfl rfl)
theorem dX8_lowest_10 : decode cX8_lowest 10 = .ok (.ifCond .eq 21, 3) := dk_153 0 21 (dk_at dksX8_lowest_0 10 rfl rfl)
theorem dX8_lowest_13 : decode cX8_lowest 13 = .ok (.lload 5, 2) := dk_22 5 (dk_at dksX8_lowest_0 13 rfl rfl)
theorem dX8_lowest_15 : decode cX8_lowest 15 = .ok (.lload 7, 2) := dk_22 7 (dk_at dksX8_lowest_0 15 rfl rfl)
theorem dX8_lowest_17 : decode cX8_lowest 17 = .ok (.lrem, 1) := dk_113 (dk_at dksX8_lowest_0 17 rfl rfl)
theorem dX8_lowest_18 : decode cX8_lowest 18 = .ok (.lstore 9, 2) := dk_55 9 (dk_at dksX8_lowest_0 18 rfl rfl)
theorem dX8_lowest_20 : decode cX8_lowest 20 = .ok (.lload 7, 2) := dk_22 7 (dk_at dksX8_lowest_0 20 rfl rfl)
theorem dX8_lowest_22 : decode cX8_lowest 22 = .ok (.lstore 5, 2) := dk_55 5 (dk_at dksX8_lowest_0 22 rfl rfl)
theorem dX8_lowest_24 : decode cX8_lowest 24 = .ok (.lload 9, 2) := dk_22 9 (dk_at dksX8_lowest_1 0 rfl rfl)
theorem dX8_lowest_26 : decode cX8_lowest 26 = .ok (.lstore 7, 2) := dk_55 7 (dk_at dksX8_lowest_1 2 rfl rfl)
theorem dX8_lowest_28 : decode cX8_lowest 28 = .ok (.goto (-22), 3) := dk_167 255 234 (dk_at dksX8_lowest_1 4 rfl rfl)
theorem dX8_lowest_31 : decode cX8_lowest 31 = .ok (.iload 4, 2) := dk_21 4 (dk_at dksX8_lowest_1 7 rfl rfl)
theorem dX8_lowest_33 : decode cX8_lowest 33 = .ok (.ifCond .ne 10, 3) := dk_154 0 10 (dk_at dksX8_lowest_1 9 rfl rfl)
theorem dX8_lowest_36 : decode cX8_lowest 36 = .ok (.lload_n 0, 1) := dk_30 (dk_at dksX8_lowest_1 12 rfl rfl)
theorem dX8_lowest_37 : decode cX8_lowest 37 = .ok (.lload 5, 2) := dk_22 5 (dk_at dksX8_lowest_1 13 rfl rfl)
theorem dX8_lowest_39 : decode cX8_lowest 39 = .ok (.ldiv, 1) := dk_109 (dk_at dksX8_lowest_1 15 rfl rfl)
theorem dX8_lowest_40 : decode cX8_lowest 40 = .ok (.goto 7, 3) := dk_167 0 7 (dk_at dksX8_lowest_1 16 rfl rfl)
theorem dX8_lowest_43 : decode cX8_lowest 43 = .ok (.lload_n 2, 1) := dk_32 (dk_at dksX8_lowest_1 19 rfl rfl)
theorem dX8_lowest_44 : decode cX8_lowest 44 = .ok (.lload 5, 2) := dk_22 5 (dk_at dksX8_lowest_1 20 rfl rfl)
theorem dX8_lowest_46 : decode cX8_lowest 46 = .ok (.ldiv, 1) := dk_109 (dk_at dksX8_lowest_1 22 rfl rfl)
theorem dX8_lowest_47 : decode cX8_lowest 47 = .ok (.lreturn, 1) := dk_173 (dk_at dksX8_lowest_1 23 rfl rfl)
abbrev cX8_image : ByteArray := prog_16_method_53_code
def yX8_image : MethodName := ⟨RX8, "image", "()I"⟩
def dkwX8_image_9 : List UInt8 := [180, 0, 129, 79, 42, 180, 0, 99, 172]
abbrev dktX8_image_9 : List UInt8 := dkwX8_image_9 ++ []
def dkwX8_image_8 : List UInt8 := [180, 0, 119, 79, 42, 180, 0, 55, 16, 48, 42, 180, 0, 249, 79, 42, 180, 0, 55, 16, 49, 42]
abbrev dktX8_image_8 : List UInt8 := dkwX8_image_8 ++ dktX8_image_9
def dkwX8_image_7 : List UInt8 := [42, 180, 0, 74, 79, 42, 180, 0, 55, 16, 46, 42, 180, 0, 77, 79, 42, 180, 0, 55, 16, 47, 42]
abbrev dktX8_image_7 : List UInt8 := dkwX8_image_7 ++ dktX8_image_8
def dkwX8_image_6 : List UInt8 := [16, 43, 42, 180, 0, 116, 79, 42, 180, 0, 55, 16, 44, 42, 180, 0, 142, 79, 42, 180, 0, 55, 16, 45]
abbrev dktX8_image_6 : List UInt8 := dkwX8_image_6 ++ dktX8_image_7
def dkwX8_image_5 : List UInt8 := [27, 46, 79, 132, 1, 1, 167, 255, 145, 42, 180, 0, 55, 16, 42, 42, 180, 0, 70, 79, 42, 180, 0, 55]
abbrev dktX8_image_5 : List UInt8 := dkwX8_image_5 ++ dktX8_image_6
def dkwX8_image_4 : List UInt8 := [104, 7, 96, 42, 180, 0, 25, 27, 46, 79, 42, 180, 0, 55, 16, 6, 27, 104, 8, 96, 42, 180, 0, 28]
abbrev dktX8_image_4 : List UInt8 := dkwX8_image_4 ++ dktX8_image_5
def dkwX8_image_3 : List UInt8 := [42, 180, 0, 55, 16, 6, 27, 104, 6, 96, 42, 180, 0, 13, 27, 46, 79, 42, 180, 0, 55, 16, 6, 27]
abbrev dktX8_image_3 : List UInt8 := dkwX8_image_3 ++ dktX8_image_4
def dkwX8_image_2 : List UInt8 := [42, 180, 0, 19, 27, 46, 79, 42, 180, 0, 55, 16, 6, 27, 104, 5, 96, 42, 180, 0, 22, 27, 46, 79]
abbrev dktX8_image_2 : List UInt8 := dkwX8_image_2 ++ dktX8_image_3
def dkwX8_image_1 : List UInt8 := [180, 0, 55, 16, 6, 27, 104, 42, 180, 0, 16, 27, 46, 79, 42, 180, 0, 55, 16, 6, 27, 104, 4, 96]
abbrev dktX8_image_1 : List UInt8 := dkwX8_image_1 ++ dktX8_image_2
def dkwX8_image_0 : List UInt8 := [42, 4, 181, 1, 37, 42, 42, 180, 0, 99, 181, 1, 41, 3, 60, 27, 42, 180, 0, 99, 162, 0, 109, 42]
abbrev dktX8_image_0 : List UInt8 := dkwX8_image_0 ++ dktX8_image_1
theorem dksX8_image_0 : cX8_image.data.toList.drop 0 = dktX8_image_0 := by decide +kernel
theorem dksX8_image_1 : cX8_image.data.toList.drop 24 = dktX8_image_1 := dk_seg dksX8_image_0 24 rfl rfl
theorem dksX8_image_2 : cX8_image.data.toList.drop 48 = dktX8_image_2 := dk_seg dksX8_image_1 24 rfl rfl
theorem dksX8_image_3 : cX8_image.data.toList.drop 72 = dktX8_image_3 := dk_seg dksX8_image_2 24 rfl rfl
theorem dksX8_image_4 : cX8_image.data.toList.drop 96 = dktX8_image_4 := dk_seg dksX8_image_3 24 rfl rfl
theorem dksX8_image_5 : cX8_image.data.toList.drop 120 = dktX8_image_5 := dk_seg dksX8_image_4 24 rfl rfl
theorem dksX8_image_6 : cX8_image.data.toList.drop 144 = dktX8_image_6 := dk_seg dksX8_image_5 24 rfl rfl
theorem dksX8_image_7 : cX8_image.data.toList.drop 168 = dktX8_image_7 := dk_seg dksX8_image_6 24 rfl rfl
theorem dksX8_image_8 : cX8_image.data.toList.drop 191 = dktX8_image_8 := dk_seg dksX8_image_7 23 rfl rfl
theorem dksX8_image_9 : cX8_image.data.toList.drop 213 = dktX8_image_9 := dk_seg dksX8_image_8 22 rfl rfl
theorem dX8_image_0 : decode cX8_image 0 = .ok (.aload_n 0, 1) := dk_42 (dk_at dksX8_image_0 0 rfl rfl)
theorem dX8_image_1 : decode cX8_image 1 = .ok (.iconst 1, 1) := dk_4 (dk_at dksX8_image_0 1 rfl rfl)
theorem dX8_image_2 : decode cX8_image 2 = .ok (.putfield 293, 3) := dk_181 1 37 (dk_at dksX8_image_0 2 rfl rfl)
theorem dX8_image_5 : decode cX8_image 5 = .ok (.aload_n 0, 1) := dk_42 (dk_at dksX8_image_0 5 rfl rfl)
theorem dX8_image_6 : decode cX8_image 6 = .ok (.aload_n 0, 1) := dk_42 (dk_at dksX8_image_0 6 rfl rfl)
theorem dX8_image_7 : decode cX8_image 7 = .ok (.getfield 99, 3) := dk_180 0 99 (dk_at dksX8_image_0 7 rfl rfl)
theorem dX8_image_10 : decode cX8_image 10 = .ok (.putfield 297, 3) := dk_181 1 41 (dk_at dksX8_image_0 10 rfl rfl)
theorem dX8_image_13 : decode cX8_image 13 = .ok (.iconst 0, 1) := dk_3 (dk_at dksX8_image_0 13 rfl rfl)
theorem dX8_image_14 : decode cX8_image 14 = .ok (.istore_n 1, 1) := dk_60 (dk_at dksX8_image_0 14 rfl rfl)
theorem dX8_image_15 : decode cX8_image 15 = .ok (.iload_n 1, 1) := dk_27 (dk_at dksX8_image_0 15 rfl rfl)
theorem dX8_image_16 : decode cX8_image 16 = .ok (.aload_n 0, 1) := dk_42 (dk_at dksX8_image_0 16 rfl rfl)
theorem dX8_image_17 : decode cX8_image 17 = .ok (.getfield 99, 3) := dk_180 0 99 (dk_at dksX8_image_0 17 rfl rfl)
theorem dX8_image_20 : decode cX8_image 20 = .ok (.if_icmp .ge 109, 3) := dk_162 0 109 (dk_at dksX8_image_0 20 rfl rfl)
theorem dX8_image_23 : decode cX8_image 23 = .ok (.aload_n 0, 1) := dk_42 (dk_at dksX8_image_0 23 rfl rfl)
theorem dX8_image_24 : decode cX8_image 24 = .ok (.getfield 55, 3) := dk_180 0 55 (dk_at dksX8_image_1 0 rfl rfl)
theorem dX8_image_27 : decode cX8_image 27 = .ok (.bipush 6, 2) := dk_16 6 (dk_at dksX8_image_1 3 rfl rfl)
theorem dX8_image_29 : decode cX8_image 29 = .ok (.iload_n 1, 1) := dk_27 (dk_at dksX8_image_1 5 rfl rfl)
theorem dX8_image_30 : decode cX8_image 30 = .ok (.imul, 1) := dk_104 (dk_at dksX8_image_1 6 rfl rfl)
theorem dX8_image_31 : decode cX8_image 31 = .ok (.aload_n 0, 1) := dk_42 (dk_at dksX8_image_1 7 rfl rfl)
theorem dX8_image_32 : decode cX8_image 32 = .ok (.getfield 16, 3) := dk_180 0 16 (dk_at dksX8_image_1 8 rfl rfl)
theorem dX8_image_35 : decode cX8_image 35 = .ok (.iload_n 1, 1) := dk_27 (dk_at dksX8_image_1 11 rfl rfl)
theorem dX8_image_36 : decode cX8_image 36 = .ok (.iaload, 1) := dk_46 (dk_at dksX8_image_1 12 rfl rfl)
theorem dX8_image_37 : decode cX8_image 37 = .ok (.iastore, 1) := dk_79 (dk_at dksX8_image_1 13 rfl rfl)
theorem dX8_image_38 : decode cX8_image 38 = .ok (.aload_n 0, 1) := dk_42 (dk_at dksX8_image_1 14 rfl rfl)
theorem dX8_image_39 : decode cX8_image 39 = .ok (.getfield 55, 3) := dk_180 0 55 (dk_at dksX8_image_1 15 rfl rfl)
theorem dX8_image_42 : decode cX8_image 42 = .ok (.bipush 6, 2) := dk_16 6 (dk_at dksX8_image_1 18 rfl rfl)
theorem dX8_image_44 : decode cX8_image 44 = .ok (.iload_n 1, 1) := dk_27 (dk_at dksX8_image_1 20 rfl rfl)
theorem dX8_image_45 : decode cX8_image 45 = .ok (.imul, 1) := dk_104 (dk_at dksX8_image_1 21 rfl rfl)
theorem dX8_image_46 : decode cX8_image 46 = .ok (.iconst 1, 1) := dk_4 (dk_at dksX8_image_1 22 rfl rfl)
theorem dX8_image_47 : decode cX8_image 47 = .ok (.iadd, 1) := dk_96 (dk_at dksX8_image_1 23 rfl rfl)
theorem dX8_image_48 : decode cX8_image 48 = .ok (.aload_n 0, 1) := dk_42 (dk_at dksX8_image_2 0 rfl rfl)
theorem dX8_image_49 : decode cX8_image 49 = .ok (.getfield 19, 3) := dk_180 0 19 (dk_at dksX8_image_2 1 rfl rfl)
theorem dX8_image_52 : decode cX8_image 52 = .ok (.iload_n 1, 1) := dk_27 (dk_at dksX8_image_2 4 rfl rfl)
theorem dX8_image_53 : decode cX8_image 53 = .ok (.iaload, 1) := dk_46 (dk_at dksX8_image_2 5 rfl rfl)
theorem dX8_image_54 : decode cX8_image 54 = .ok (.iastore, 1) := dk_79 (dk_at dksX8_image_2 6 rfl rfl)
theorem dX8_image_55 : decode cX8_image 55 = .ok (.aload_n 0, 1) := dk_42 (dk_at dksX8_image_2 7 rfl rfl)
theorem dX8_image_56 : decode cX8_image 56 = .ok (.getfield 55, 3) := dk_180 0 55 (dk_at dksX8_image_2 8 rfl rfl)
theorem dX8_image_59 : decode cX8_image 59 = .ok (.bipush 6, 2) := dk_16 6 (dk_at dksX8_image_2 11 rfl rfl)
theorem dX8_image_61 : decode cX8_image 61 = .ok (.iload_n 1, 1) := dk_27 (dk_at dksX8_image_2 13 rfl rfl)
theorem dX8_image_62 : decode cX8_image 62 = .ok (.imul, 1) := dk_104 (dk_at dksX8_image_2 14 rfl rfl)
theorem dX8_image_63 : decode cX8_image 63 = .ok (.iconst 2, 1) := dk_5 (dk_at dksX8_image_2 15 rfl rfl)
theorem dX8_image_64 : decode cX8_image 64 = .ok (.iadd, 1) := dk_96 (dk_at dksX8_image_2 16 rfl rfl)
theorem dX8_image_65 : decode cX8_image 65 = .ok (.aload_n 0, 1) := dk_42 (dk_at dksX8_image_2 17 rfl rfl)
theorem dX8_image_66 : decode cX8_image 66 = .ok (.getfield 22, 3) := dk_180 0 22 (dk_at dksX8_image_2 18 rfl rfl)
theorem dX8_image_69 : decode cX8_image 69 = .ok (.iload_n 1, 1) := dk_27 (dk_at dksX8_image_2 21 rfl rfl)
theorem dX8_image_70 : decode cX8_image 70 = .ok (.iaload, 1) := dk_46 (dk_at dksX8_image_2 22 rfl rfl)
theorem dX8_image_71 : decode cX8_image 71 = .ok (.iastore, 1) := dk_79 (dk_at dksX8_image_2 23 rfl rfl)
theorem dX8_image_72 : decode cX8_image 72 = .ok (.aload_n 0, 1) := dk_42 (dk_at dksX8_image_3 0 rfl rfl)
theorem dX8_image_73 : decode cX8_image 73 = .ok (.getfield 55, 3) := dk_180 0 55 (dk_at dksX8_image_3 1 rfl rfl)
theorem dX8_image_76 : decode cX8_image 76 = .ok (.bipush 6, 2) := dk_16 6 (dk_at dksX8_image_3 4 rfl rfl)
theorem dX8_image_78 : decode cX8_image 78 = .ok (.iload_n 1, 1) := dk_27 (dk_at dksX8_image_3 6 rfl rfl)
theorem dX8_image_79 : decode cX8_image 79 = .ok (.imul, 1) := dk_104 (dk_at dksX8_image_3 7 rfl rfl)
theorem dX8_image_80 : decode cX8_image 80 = .ok (.iconst 3, 1) := dk_6 (dk_at dksX8_image_3 8 rfl rfl)
theorem dX8_image_81 : decode cX8_image 81 = .ok (.iadd, 1) := dk_96 (dk_at dksX8_image_3 9 rfl rfl)
theorem dX8_image_82 : decode cX8_image 82 = .ok (.aload_n 0, 1) := dk_42 (dk_at dksX8_image_3 10 rfl rfl)
theorem dX8_image_83 : decode cX8_image 83 = .ok (.getfield 13, 3) := dk_180 0 13 (dk_at dksX8_image_3 11 rfl rfl)
theorem dX8_image_86 : decode cX8_image 86 = .ok (.iload_n 1, 1) := dk_27 (dk_at dksX8_image_3 14 rfl rfl)
theorem dX8_image_87 : decode cX8_image 87 = .ok (.iaload, 1) := dk_46 (dk_at dksX8_image_3 15 rfl rfl)
theorem dX8_image_88 : decode cX8_image 88 = .ok (.iastore, 1) := dk_79 (dk_at dksX8_image_3 16 rfl rfl)
theorem dX8_image_89 : decode cX8_image 89 = .ok (.aload_n 0, 1) := dk_42 (dk_at dksX8_image_3 17 rfl rfl)
theorem dX8_image_90 : decode cX8_image 90 = .ok (.getfield 55, 3) := dk_180 0 55 (dk_at dksX8_image_3 18 rfl rfl)
theorem dX8_image_93 : decode cX8_image 93 = .ok (.bipush 6, 2) := dk_16 6 (dk_at dksX8_image_3 21 rfl rfl)
theorem dX8_image_95 : decode cX8_image 95 = .ok (.iload_n 1, 1) := dk_27 (dk_at dksX8_image_3 23 rfl rfl)
theorem dX8_image_96 : decode cX8_image 96 = .ok (.imul, 1) := dk_104 (dk_at dksX8_image_4 0 rfl rfl)
theorem dX8_image_97 : decode cX8_image 97 = .ok (.iconst 4, 1) := dk_7 (dk_at dksX8_image_4 1 rfl rfl)
theorem dX8_image_98 : decode cX8_image 98 = .ok (.iadd, 1) := dk_96 (dk_at dksX8_image_4 2 rfl rfl)
theorem dX8_image_99 : decode cX8_image 99 = .ok (.aload_n 0, 1) := dk_42 (dk_at dksX8_image_4 3 rfl rfl)
theorem dX8_image_100 : decode cX8_image 100 = .ok (.getfield 25, 3) := dk_180 0 25 (dk_at dksX8_image_4 4 rfl rfl)
theorem dX8_image_103 : decode cX8_image 103 = .ok (.iload_n 1, 1) := dk_27 (dk_at dksX8_image_4 7 rfl rfl)
theorem dX8_image_104 : decode cX8_image 104 = .ok (.iaload, 1) := dk_46 (dk_at dksX8_image_4 8 rfl rfl)
theorem dX8_image_105 : decode cX8_image 105 = .ok (.iastore, 1) := dk_79 (dk_at dksX8_image_4 9 rfl rfl)
theorem dX8_image_106 : decode cX8_image 106 = .ok (.aload_n 0, 1) := dk_42 (dk_at dksX8_image_4 10 rfl rfl)
theorem dX8_image_107 : decode cX8_image 107 = .ok (.getfield 55, 3) := dk_180 0 55 (dk_at dksX8_image_4 11 rfl rfl)
theorem dX8_image_110 : decode cX8_image 110 = .ok (.bipush 6, 2) := dk_16 6 (dk_at dksX8_image_4 14 rfl rfl)
theorem dX8_image_112 : decode cX8_image 112 = .ok (.iload_n 1, 1) := dk_27 (dk_at dksX8_image_4 16 rfl rfl)
theorem dX8_image_113 : decode cX8_image 113 = .ok (.imul, 1) := dk_104 (dk_at dksX8_image_4 17 rfl rfl)
theorem dX8_image_114 : decode cX8_image 114 = .ok (.iconst 5, 1) := dk_8 (dk_at dksX8_image_4 18 rfl rfl)
theorem dX8_image_115 : decode cX8_image 115 = .ok (.iadd, 1) := dk_96 (dk_at dksX8_image_4 19 rfl rfl)
theorem dX8_image_116 : decode cX8_image 116 = .ok (.aload_n 0, 1) := dk_42 (dk_at dksX8_image_4 20 rfl rfl)
theorem dX8_image_117 : decode cX8_image 117 = .ok (.getfield 28, 3) := dk_180 0 28 (dk_at dksX8_image_4 21 rfl rfl)
theorem dX8_image_120 : decode cX8_image 120 = .ok (.iload_n 1, 1) := dk_27 (dk_at dksX8_image_5 0 rfl rfl)
theorem dX8_image_121 : decode cX8_image 121 = .ok (.iaload, 1) := dk_46 (dk_at dksX8_image_5 1 rfl rfl)
theorem dX8_image_122 : decode cX8_image 122 = .ok (.iastore, 1) := dk_79 (dk_at dksX8_image_5 2 rfl rfl)
theorem dX8_image_123 : decode cX8_image 123 = .ok (.iinc 1 1, 3) := dk_132 1 1 (dk_at dksX8_image_5 3 rfl rfl)
theorem dX8_image_126 : decode cX8_image 126 = .ok (.goto (-111), 3) := dk_167 255 145 (dk_at dksX8_image_5 6 rfl rfl)
theorem dX8_image_129 : decode cX8_image 129 = .ok (.aload_n 0, 1) := dk_42 (dk_at dksX8_image_5 9 rfl rfl)
theorem dX8_image_130 : decode cX8_image 130 = .ok (.getfield 55, 3) := dk_180 0 55 (dk_at dksX8_image_5 10 rfl rfl)
theorem dX8_image_133 : decode cX8_image 133 = .ok (.bipush 42, 2) := dk_16 42 (dk_at dksX8_image_5 13 rfl rfl)
theorem dX8_image_135 : decode cX8_image 135 = .ok (.aload_n 0, 1) := dk_42 (dk_at dksX8_image_5 15 rfl rfl)
theorem dX8_image_136 : decode cX8_image 136 = .ok (.getfield 70, 3) := dk_180 0 70 (dk_at dksX8_image_5 16 rfl rfl)
theorem dX8_image_139 : decode cX8_image 139 = .ok (.iastore, 1) := dk_79 (dk_at dksX8_image_5 19 rfl rfl)
theorem dX8_image_140 : decode cX8_image 140 = .ok (.aload_n 0, 1) := dk_42 (dk_at dksX8_image_5 20 rfl rfl)
theorem dX8_image_141 : decode cX8_image 141 = .ok (.getfield 55, 3) := dk_180 0 55 (dk_at dksX8_image_5 21 rfl rfl)
theorem dX8_image_144 : decode cX8_image 144 = .ok (.bipush 43, 2) := dk_16 43 (dk_at dksX8_image_6 0 rfl rfl)
theorem dX8_image_146 : decode cX8_image 146 = .ok (.aload_n 0, 1) := dk_42 (dk_at dksX8_image_6 2 rfl rfl)
theorem dX8_image_147 : decode cX8_image 147 = .ok (.getfield 116, 3) := dk_180 0 116 (dk_at dksX8_image_6 3 rfl rfl)
theorem dX8_image_150 : decode cX8_image 150 = .ok (.iastore, 1) := dk_79 (dk_at dksX8_image_6 6 rfl rfl)
theorem dX8_image_151 : decode cX8_image 151 = .ok (.aload_n 0, 1) := dk_42 (dk_at dksX8_image_6 7 rfl rfl)
theorem dX8_image_152 : decode cX8_image 152 = .ok (.getfield 55, 3) := dk_180 0 55 (dk_at dksX8_image_6 8 rfl rfl)
theorem dX8_image_155 : decode cX8_image 155 = .ok (.bipush 44, 2) := dk_16 44 (dk_at dksX8_image_6 11 rfl rfl)
theorem dX8_image_157 : decode cX8_image 157 = .ok (.aload_n 0, 1) := dk_42 (dk_at dksX8_image_6 13 rfl rfl)
theorem dX8_image_158 : decode cX8_image 158 = .ok (.getfield 142, 3) := dk_180 0 142 (dk_at dksX8_image_6 14 rfl rfl)
theorem dX8_image_161 : decode cX8_image 161 = .ok (.iastore, 1) := dk_79 (dk_at dksX8_image_6 17 rfl rfl)
theorem dX8_image_162 : decode cX8_image 162 = .ok (.aload_n 0, 1) := dk_42 (dk_at dksX8_image_6 18 rfl rfl)
theorem dX8_image_163 : decode cX8_image 163 = .ok (.getfield 55, 3) := dk_180 0 55 (dk_at dksX8_image_6 19 rfl rfl)
theorem dX8_image_166 : decode cX8_image 166 = .ok (.bipush 45, 2) := dk_16 45 (dk_at dksX8_image_6 22 rfl rfl)
theorem dX8_image_168 : decode cX8_image 168 = .ok (.aload_n 0, 1) := dk_42 (dk_at dksX8_image_7 0 rfl rfl)
theorem dX8_image_169 : decode cX8_image 169 = .ok (.getfield 74, 3) := dk_180 0 74 (dk_at dksX8_image_7 1 rfl rfl)
theorem dX8_image_172 : decode cX8_image 172 = .ok (.iastore, 1) := dk_79 (dk_at dksX8_image_7 4 rfl rfl)
theorem dX8_image_173 : decode cX8_image 173 = .ok (.aload_n 0, 1) := dk_42 (dk_at dksX8_image_7 5 rfl rfl)
theorem dX8_image_174 : decode cX8_image 174 = .ok (.getfield 55, 3) := dk_180 0 55 (dk_at dksX8_image_7 6 rfl rfl)
theorem dX8_image_177 : decode cX8_image 177 = .ok (.bipush 46, 2) := dk_16 46 (dk_at dksX8_image_7 9 rfl rfl)
theorem dX8_image_179 : decode cX8_image 179 = .ok (.aload_n 0, 1) := dk_42 (dk_at dksX8_image_7 11 rfl rfl)
theorem dX8_image_180 : decode cX8_image 180 = .ok (.getfield 77, 3) := dk_180 0 77 (dk_at dksX8_image_7 12 rfl rfl)
theorem dX8_image_183 : decode cX8_image 183 = .ok (.iastore, 1) := dk_79 (dk_at dksX8_image_7 15 rfl rfl)
theorem dX8_image_184 : decode cX8_image 184 = .ok (.aload_n 0, 1) := dk_42 (dk_at dksX8_image_7 16 rfl rfl)
theorem dX8_image_185 : decode cX8_image 185 = .ok (.getfield 55, 3) := dk_180 0 55 (dk_at dksX8_image_7 17 rfl rfl)
theorem dX8_image_188 : decode cX8_image 188 = .ok (.bipush 47, 2) := dk_16 47 (dk_at dksX8_image_7 20 rfl rfl)
theorem dX8_image_190 : decode cX8_image 190 = .ok (.aload_n 0, 1) := dk_42 (dk_at dksX8_image_7 22 rfl rfl)
theorem dX8_image_191 : decode cX8_image 191 = .ok (.getfield 119, 3) := dk_180 0 119 (dk_at dksX8_image_8 0 rfl rfl)
theorem dX8_image_194 : decode cX8_image 194 = .ok (.iastore, 1) := dk_79 (dk_at dksX8_image_8 3 rfl rfl)
theorem dX8_image_195 : decode cX8_image 195 = .ok (.aload_n 0, 1) := dk_42 (dk_at dksX8_image_8 4 rfl rfl)
theorem dX8_image_196 : decode cX8_image 196 = .ok (.getfield 55, 3) := dk_180 0 55 (dk_at dksX8_image_8 5 rfl rfl)
theorem dX8_image_199 : decode cX8_image 199 = .ok (.bipush 48, 2) := dk_16 48 (dk_at dksX8_image_8 8 rfl rfl)
theorem dX8_image_201 : decode cX8_image 201 = .ok (.aload_n 0, 1) := dk_42 (dk_at dksX8_image_8 10 rfl rfl)
theorem dX8_image_202 : decode cX8_image 202 = .ok (.getfield 249, 3) := dk_180 0 249 (dk_at dksX8_image_8 11 rfl rfl)
theorem dX8_image_205 : decode cX8_image 205 = .ok (.iastore, 1) := dk_79 (dk_at dksX8_image_8 14 rfl rfl)
theorem dX8_image_206 : decode cX8_image 206 = .ok (.aload_n 0, 1) := dk_42 (dk_at dksX8_image_8 15 rfl rfl)
theorem dX8_image_207 : decode cX8_image 207 = .ok (.getfield 55, 3) := dk_180 0 55 (dk_at dksX8_image_8 16 rfl rfl)
theorem dX8_image_210 : decode cX8_image 210 = .ok (.bipush 49, 2) := dk_16 49 (dk_at dksX8_image_8 19 rfl rfl)
theorem dX8_image_212 : decode cX8_image 212 = .ok (.aload_n 0, 1) := dk_42 (dk_at dksX8_image_8 21 rfl rfl)
theorem dX8_image_213 : decode cX8_image 213 = .ok (.getfield 129, 3) := dk_180 0 129 (dk_at dksX8_image_9 0 rfl rfl)
theorem dX8_image_216 : decode cX8_image 216 = .ok (.iastore, 1) := dk_79 (dk_at dksX8_image_9 3 rfl rfl)
theorem dX8_image_217 : decode cX8_image 217 = .ok (.aload_n 0, 1) := dk_42 (dk_at dksX8_image_9 4 rfl rfl)
theorem dX8_image_218 : decode cX8_image 218 = .ok (.getfield 99, 3) := dk_180 0 99 (dk_at dksX8_image_9 5 rfl rfl)
theorem dX8_image_221 : decode cX8_image 221 = .ok (.ireturn, 1) := dk_172 (dk_at dksX8_image_9 8 rfl rfl)
abbrev cX8_back : ByteArray := prog_16_method_54_code
def yX8_back : MethodName := ⟨RX8, "back", "()I"⟩
def dkwX8_back_10 : List UInt8 := [172]
abbrev dktX8_back_10 : List UInt8 := dkwX8_back_10 ++ []
def dkwX8_back_9 : List UInt8 := [180, 0, 55, 16, 48, 46, 181, 0, 249, 42, 42, 180, 0, 55, 16, 49, 46, 181, 0, 129, 42, 180, 0, 99]
abbrev dktX8_back_9 : List UInt8 := dkwX8_back_9 ++ dktX8_back_10
def dkwX8_back_8 : List UInt8 := [180, 0, 55, 16, 46, 46, 181, 0, 77, 42, 42, 180, 0, 55, 16, 47, 46, 181, 0, 119, 42, 42]
abbrev dktX8_back_8 : List UInt8 := dkwX8_back_8 ++ dktX8_back_9
def dkwX8_back_7 : List UInt8 := [180, 0, 55, 16, 44, 46, 181, 0, 142, 42, 42, 180, 0, 55, 16, 45, 46, 181, 0, 74, 42, 42]
abbrev dktX8_back_7 : List UInt8 := dkwX8_back_7 ++ dktX8_back_8
def dkwX8_back_6 : List UInt8 := [180, 0, 55, 16, 42, 46, 181, 0, 70, 42, 42, 180, 0, 55, 16, 43, 46, 181, 0, 116, 42, 42]
abbrev dktX8_back_6 : List UInt8 := dkwX8_back_6 ++ dktX8_back_7
def dkwX8_back_5 : List UInt8 := [180, 0, 28, 27, 42, 180, 0, 55, 16, 6, 27, 104, 8, 96, 46, 79, 132, 1, 1, 167, 255, 145, 42, 42]
abbrev dktX8_back_5 : List UInt8 := dkwX8_back_5 ++ dktX8_back_6
def dkwX8_back_4 : List UInt8 := [6, 96, 46, 79, 42, 180, 0, 25, 27, 42, 180, 0, 55, 16, 6, 27, 104, 7, 96, 46, 79, 42]
abbrev dktX8_back_4 : List UInt8 := dkwX8_back_4 ++ dktX8_back_5
def dkwX8_back_3 : List UInt8 := [180, 0, 55, 16, 6, 27, 104, 5, 96, 46, 79, 42, 180, 0, 13, 27, 42, 180, 0, 55, 16, 6, 27, 104]
abbrev dktX8_back_3 : List UInt8 := dkwX8_back_3 ++ dktX8_back_4
def dkwX8_back_2 : List UInt8 := [180, 0, 19, 27, 42, 180, 0, 55, 16, 6, 27, 104, 4, 96, 46, 79, 42, 180, 0, 22, 27, 42]
abbrev dktX8_back_2 : List UInt8 := dkwX8_back_2 ++ dktX8_back_3
def dkwX8_back_1 : List UInt8 := [180, 0, 99, 162, 0, 109, 42, 180, 0, 16, 27, 42, 180, 0, 55, 16, 6, 27, 104, 46, 79, 42]
abbrev dktX8_back_1 : List UInt8 := dkwX8_back_1 ++ dktX8_back_2
def dkwX8_back_0 : List UInt8 := [42, 180, 1, 37, 154, 0, 6, 16, 253, 172, 42, 42, 180, 1, 41, 181, 0, 99, 3, 60, 27, 42]
abbrev dktX8_back_0 : List UInt8 := dkwX8_back_0 ++ dktX8_back_1
theorem dksX8_back_0 : cX8_back.data.toList.drop 0 = dktX8_back_0 := by decide +kernel
theorem dksX8_back_1 : cX8_back.data.toList.drop 22 = dktX8_back_1 := dk_seg dksX8_back_0 22 rfl rfl
theorem dksX8_back_2 : cX8_back.data.toList.drop 44 = dktX8_back_2 := dk_seg dksX8_back_1 22 rfl rfl
theorem dksX8_back_3 : cX8_back.data.toList.drop 66 = dktX8_back_3 := dk_seg dksX8_back_2 22 rfl rfl
theorem dksX8_back_4 : cX8_back.data.toList.drop 90 = dktX8_back_4 := dk_seg dksX8_back_3 24 rfl rfl
theorem dksX8_back_5 : cX8_back.data.toList.drop 112 = dktX8_back_5 := dk_seg dksX8_back_4 22 rfl rfl
theorem dksX8_back_6 : cX8_back.data.toList.drop 136 = dktX8_back_6 := dk_seg dksX8_back_5 24 rfl rfl
theorem dksX8_back_7 : cX8_back.data.toList.drop 158 = dktX8_back_7 := dk_seg dksX8_back_6 22 rfl rfl
theorem dksX8_back_8 : cX8_back.data.toList.drop 180 = dktX8_back_8 := dk_seg dksX8_back_7 22 rfl rfl
theorem dksX8_back_9 : cX8_back.data.toList.drop 202 = dktX8_back_9 := dk_seg dksX8_back_8 22 rfl rfl
theorem dksX8_back_10 : cX8_back.data.toList.drop 226 = dktX8_back_10 := dk_seg dksX8_back_9 24 rfl rfl
theorem dX8_back_0 : decode cX8_back 0 = .ok (.aload_n 0, 1) := dk_42 (dk_at dksX8_back_0 0 rfl rfl)
theorem dX8_back_1 : decode cX8_back 1 = .ok (.getfield 293, 3) := dk_180 1 37 (dk_at dksX8_back_0 1 rfl rfl)
theorem dX8_back_4 : decode cX8_back 4 = .ok (.ifCond .ne 6, 3) := dk_154 0 6 (dk_at dksX8_back_0 4 rfl rfl)
theorem dX8_back_7 : decode cX8_back 7 = .ok (.bipush (-3), 2) := dk_16 253 (dk_at dksX8_back_0 7 rfl rfl)
theorem dX8_back_9 : decode cX8_back 9 = .ok (.ireturn, 1) := dk_172 (dk_at dksX8_back_0 9 rfl rfl)
theorem dX8_back_10 : decode cX8_back 10 = .ok (.aload_n 0, 1) := dk_42 (dk_at dksX8_back_0 10 rfl rfl)
theorem dX8_back_11 : decode cX8_back 11 = .ok (.aload_n 0, 1) := dk_42 (dk_at dksX8_back_0 11 rfl rfl)
theorem dX8_back_12 : decode cX8_back 12 = .ok (.getfield 297, 3) := dk_180 1 41 (dk_at dksX8_back_0 12 rfl rfl)
theorem dX8_back_15 : decode cX8_back 15 = .ok (.putfield 99, 3) := dk_181 0 99 (dk_at dksX8_back_0 15 rfl rfl)
theorem dX8_back_18 : decode cX8_back 18 = .ok (.iconst 0, 1) := dk_3 (dk_at dksX8_back_0 18 rfl rfl)
theorem dX8_back_19 : decode cX8_back 19 = .ok (.istore_n 1, 1) := dk_60 (dk_at dksX8_back_0 19 rfl rfl)
theorem dX8_back_20 : decode cX8_back 20 = .ok (.iload_n 1, 1) := dk_27 (dk_at dksX8_back_0 20 rfl rfl)
theorem dX8_back_21 : decode cX8_back 21 = .ok (.aload_n 0, 1) := dk_42 (dk_at dksX8_back_0 21 rfl rfl)
theorem dX8_back_22 : decode cX8_back 22 = .ok (.getfield 99, 3) := dk_180 0 99 (dk_at dksX8_back_1 0 rfl rfl)
theorem dX8_back_25 : decode cX8_back 25 = .ok (.if_icmp .ge 109, 3) := dk_162 0 109 (dk_at dksX8_back_1 3 rfl rfl)
theorem dX8_back_28 : decode cX8_back 28 = .ok (.aload_n 0, 1) := dk_42 (dk_at dksX8_back_1 6 rfl rfl)
theorem dX8_back_29 : decode cX8_back 29 = .ok (.getfield 16, 3) := dk_180 0 16 (dk_at dksX8_back_1 7 rfl rfl)
theorem dX8_back_32 : decode cX8_back 32 = .ok (.iload_n 1, 1) := dk_27 (dk_at dksX8_back_1 10 rfl rfl)
theorem dX8_back_33 : decode cX8_back 33 = .ok (.aload_n 0, 1) := dk_42 (dk_at dksX8_back_1 11 rfl rfl)
theorem dX8_back_34 : decode cX8_back 34 = .ok (.getfield 55, 3) := dk_180 0 55 (dk_at dksX8_back_1 12 rfl rfl)
theorem dX8_back_37 : decode cX8_back 37 = .ok (.bipush 6, 2) := dk_16 6 (dk_at dksX8_back_1 15 rfl rfl)
theorem dX8_back_39 : decode cX8_back 39 = .ok (.iload_n 1, 1) := dk_27 (dk_at dksX8_back_1 17 rfl rfl)
theorem dX8_back_40 : decode cX8_back 40 = .ok (.imul, 1) := dk_104 (dk_at dksX8_back_1 18 rfl rfl)
theorem dX8_back_41 : decode cX8_back 41 = .ok (.iaload, 1) := dk_46 (dk_at dksX8_back_1 19 rfl rfl)
theorem dX8_back_42 : decode cX8_back 42 = .ok (.iastore, 1) := dk_79 (dk_at dksX8_back_1 20 rfl rfl)
theorem dX8_back_43 : decode cX8_back 43 = .ok (.aload_n 0, 1) := dk_42 (dk_at dksX8_back_1 21 rfl rfl)
theorem dX8_back_44 : decode cX8_back 44 = .ok (.getfield 19, 3) := dk_180 0 19 (dk_at dksX8_back_2 0 rfl rfl)
theorem dX8_back_47 : decode cX8_back 47 = .ok (.iload_n 1, 1) := dk_27 (dk_at dksX8_back_2 3 rfl rfl)
theorem dX8_back_48 : decode cX8_back 48 = .ok (.aload_n 0, 1) := dk_42 (dk_at dksX8_back_2 4 rfl rfl)
theorem dX8_back_49 : decode cX8_back 49 = .ok (.getfield 55, 3) := dk_180 0 55 (dk_at dksX8_back_2 5 rfl rfl)
theorem dX8_back_52 : decode cX8_back 52 = .ok (.bipush 6, 2) := dk_16 6 (dk_at dksX8_back_2 8 rfl rfl)
theorem dX8_back_54 : decode cX8_back 54 = .ok (.iload_n 1, 1) := dk_27 (dk_at dksX8_back_2 10 rfl rfl)
theorem dX8_back_55 : decode cX8_back 55 = .ok (.imul, 1) := dk_104 (dk_at dksX8_back_2 11 rfl rfl)
theorem dX8_back_56 : decode cX8_back 56 = .ok (.iconst 1, 1) := dk_4 (dk_at dksX8_back_2 12 rfl rfl)
theorem dX8_back_57 : decode cX8_back 57 = .ok (.iadd, 1) := dk_96 (dk_at dksX8_back_2 13 rfl rfl)
theorem dX8_back_58 : decode cX8_back 58 = .ok (.iaload, 1) := dk_46 (dk_at dksX8_back_2 14 rfl rfl)
theorem dX8_back_59 : decode cX8_back 59 = .ok (.iastore, 1) := dk_79 (dk_at dksX8_back_2 15 rfl rfl)
theorem dX8_back_60 : decode cX8_back 60 = .ok (.aload_n 0, 1) := dk_42 (dk_at dksX8_back_2 16 rfl rfl)
theorem dX8_back_61 : decode cX8_back 61 = .ok (.getfield 22, 3) := dk_180 0 22 (dk_at dksX8_back_2 17 rfl rfl)
theorem dX8_back_64 : decode cX8_back 64 = .ok (.iload_n 1, 1) := dk_27 (dk_at dksX8_back_2 20 rfl rfl)
theorem dX8_back_65 : decode cX8_back 65 = .ok (.aload_n 0, 1) := dk_42 (dk_at dksX8_back_2 21 rfl rfl)
theorem dX8_back_66 : decode cX8_back 66 = .ok (.getfield 55, 3) := dk_180 0 55 (dk_at dksX8_back_3 0 rfl rfl)
theorem dX8_back_69 : decode cX8_back 69 = .ok (.bipush 6, 2) := dk_16 6 (dk_at dksX8_back_3 3 rfl rfl)
theorem dX8_back_71 : decode cX8_back 71 = .ok (.iload_n 1, 1) := dk_27 (dk_at dksX8_back_3 5 rfl rfl)
theorem dX8_back_72 : decode cX8_back 72 = .ok (.imul, 1) := dk_104 (dk_at dksX8_back_3 6 rfl rfl)
theorem dX8_back_73 : decode cX8_back 73 = .ok (.iconst 2, 1) := dk_5 (dk_at dksX8_back_3 7 rfl rfl)
theorem dX8_back_74 : decode cX8_back 74 = .ok (.iadd, 1) := dk_96 (dk_at dksX8_back_3 8 rfl rfl)
theorem dX8_back_75 : decode cX8_back 75 = .ok (.iaload, 1) := dk_46 (dk_at dksX8_back_3 9 rfl rfl)
theorem dX8_back_76 : decode cX8_back 76 = .ok (.iastore, 1) := dk_79 (dk_at dksX8_back_3 10 rfl rfl)
theorem dX8_back_77 : decode cX8_back 77 = .ok (.aload_n 0, 1) := dk_42 (dk_at dksX8_back_3 11 rfl rfl)
theorem dX8_back_78 : decode cX8_back 78 = .ok (.getfield 13, 3) := dk_180 0 13 (dk_at dksX8_back_3 12 rfl rfl)
theorem dX8_back_81 : decode cX8_back 81 = .ok (.iload_n 1, 1) := dk_27 (dk_at dksX8_back_3 15 rfl rfl)
theorem dX8_back_82 : decode cX8_back 82 = .ok (.aload_n 0, 1) := dk_42 (dk_at dksX8_back_3 16 rfl rfl)
theorem dX8_back_83 : decode cX8_back 83 = .ok (.getfield 55, 3) := dk_180 0 55 (dk_at dksX8_back_3 17 rfl rfl)
theorem dX8_back_86 : decode cX8_back 86 = .ok (.bipush 6, 2) := dk_16 6 (dk_at dksX8_back_3 20 rfl rfl)
theorem dX8_back_88 : decode cX8_back 88 = .ok (.iload_n 1, 1) := dk_27 (dk_at dksX8_back_3 22 rfl rfl)
theorem dX8_back_89 : decode cX8_back 89 = .ok (.imul, 1) := dk_104 (dk_at dksX8_back_3 23 rfl rfl)
theorem dX8_back_90 : decode cX8_back 90 = .ok (.iconst 3, 1) := dk_6 (dk_at dksX8_back_4 0 rfl rfl)
theorem dX8_back_91 : decode cX8_back 91 = .ok (.iadd, 1) := dk_96 (dk_at dksX8_back_4 1 rfl rfl)
theorem dX8_back_92 : decode cX8_back 92 = .ok (.iaload, 1) := dk_46 (dk_at dksX8_back_4 2 rfl rfl)
theorem dX8_back_93 : decode cX8_back 93 = .ok (.iastore, 1) := dk_79 (dk_at dksX8_back_4 3 rfl rfl)
theorem dX8_back_94 : decode cX8_back 94 = .ok (.aload_n 0, 1) := dk_42 (dk_at dksX8_back_4 4 rfl rfl)
theorem dX8_back_95 : decode cX8_back 95 = .ok (.getfield 25, 3) := dk_180 0 25 (dk_at dksX8_back_4 5 rfl rfl)
theorem dX8_back_98 : decode cX8_back 98 = .ok (.iload_n 1, 1) := dk_27 (dk_at dksX8_back_4 8 rfl rfl)
theorem dX8_back_99 : decode cX8_back 99 = .ok (.aload_n 0, 1) := dk_42 (dk_at dksX8_back_4 9 rfl rfl)
theorem dX8_back_100 : decode cX8_back 100 = .ok (.getfield 55, 3) := dk_180 0 55 (dk_at dksX8_back_4 10 rfl rfl)
theorem dX8_back_103 : decode cX8_back 103 = .ok (.bipush 6, 2) := dk_16 6 (dk_at dksX8_back_4 13 rfl rfl)
theorem dX8_back_105 : decode cX8_back 105 = .ok (.iload_n 1, 1) := dk_27 (dk_at dksX8_back_4 15 rfl rfl)
theorem dX8_back_106 : decode cX8_back 106 = .ok (.imul, 1) := dk_104 (dk_at dksX8_back_4 16 rfl rfl)
theorem dX8_back_107 : decode cX8_back 107 = .ok (.iconst 4, 1) := dk_7 (dk_at dksX8_back_4 17 rfl rfl)
theorem dX8_back_108 : decode cX8_back 108 = .ok (.iadd, 1) := dk_96 (dk_at dksX8_back_4 18 rfl rfl)
theorem dX8_back_109 : decode cX8_back 109 = .ok (.iaload, 1) := dk_46 (dk_at dksX8_back_4 19 rfl rfl)
theorem dX8_back_110 : decode cX8_back 110 = .ok (.iastore, 1) := dk_79 (dk_at dksX8_back_4 20 rfl rfl)
theorem dX8_back_111 : decode cX8_back 111 = .ok (.aload_n 0, 1) := dk_42 (dk_at dksX8_back_4 21 rfl rfl)
theorem dX8_back_112 : decode cX8_back 112 = .ok (.getfield 28, 3) := dk_180 0 28 (dk_at dksX8_back_5 0 rfl rfl)
theorem dX8_back_115 : decode cX8_back 115 = .ok (.iload_n 1, 1) := dk_27 (dk_at dksX8_back_5 3 rfl rfl)
theorem dX8_back_116 : decode cX8_back 116 = .ok (.aload_n 0, 1) := dk_42 (dk_at dksX8_back_5 4 rfl rfl)
theorem dX8_back_117 : decode cX8_back 117 = .ok (.getfield 55, 3) := dk_180 0 55 (dk_at dksX8_back_5 5 rfl rfl)
theorem dX8_back_120 : decode cX8_back 120 = .ok (.bipush 6, 2) := dk_16 6 (dk_at dksX8_back_5 8 rfl rfl)
theorem dX8_back_122 : decode cX8_back 122 = .ok (.iload_n 1, 1) := dk_27 (dk_at dksX8_back_5 10 rfl rfl)
theorem dX8_back_123 : decode cX8_back 123 = .ok (.imul, 1) := dk_104 (dk_at dksX8_back_5 11 rfl rfl)
theorem dX8_back_124 : decode cX8_back 124 = .ok (.iconst 5, 1) := dk_8 (dk_at dksX8_back_5 12 rfl rfl)
theorem dX8_back_125 : decode cX8_back 125 = .ok (.iadd, 1) := dk_96 (dk_at dksX8_back_5 13 rfl rfl)
theorem dX8_back_126 : decode cX8_back 126 = .ok (.iaload, 1) := dk_46 (dk_at dksX8_back_5 14 rfl rfl)
theorem dX8_back_127 : decode cX8_back 127 = .ok (.iastore, 1) := dk_79 (dk_at dksX8_back_5 15 rfl rfl)
theorem dX8_back_128 : decode cX8_back 128 = .ok (.iinc 1 1, 3) := dk_132 1 1 (dk_at dksX8_back_5 16 rfl rfl)
theorem dX8_back_131 : decode cX8_back 131 = .ok (.goto (-111), 3) := dk_167 255 145 (dk_at dksX8_back_5 19 rfl rfl)
theorem dX8_back_134 : decode cX8_back 134 = .ok (.aload_n 0, 1) := dk_42 (dk_at dksX8_back_5 22 rfl rfl)
theorem dX8_back_135 : decode cX8_back 135 = .ok (.aload_n 0, 1) := dk_42 (dk_at dksX8_back_5 23 rfl rfl)
theorem dX8_back_136 : decode cX8_back 136 = .ok (.getfield 55, 3) := dk_180 0 55 (dk_at dksX8_back_6 0 rfl rfl)
theorem dX8_back_139 : decode cX8_back 139 = .ok (.bipush 42, 2) := dk_16 42 (dk_at dksX8_back_6 3 rfl rfl)
theorem dX8_back_141 : decode cX8_back 141 = .ok (.iaload, 1) := dk_46 (dk_at dksX8_back_6 5 rfl rfl)
theorem dX8_back_142 : decode cX8_back 142 = .ok (.putfield 70, 3) := dk_181 0 70 (dk_at dksX8_back_6 6 rfl rfl)
theorem dX8_back_145 : decode cX8_back 145 = .ok (.aload_n 0, 1) := dk_42 (dk_at dksX8_back_6 9 rfl rfl)
theorem dX8_back_146 : decode cX8_back 146 = .ok (.aload_n 0, 1) := dk_42 (dk_at dksX8_back_6 10 rfl rfl)
theorem dX8_back_147 : decode cX8_back 147 = .ok (.getfield 55, 3) := dk_180 0 55 (dk_at dksX8_back_6 11 rfl rfl)
theorem dX8_back_150 : decode cX8_back 150 = .ok (.bipush 43, 2) := dk_16 43 (dk_at dksX8_back_6 14 rfl rfl)
theorem dX8_back_152 : decode cX8_back 152 = .ok (.iaload, 1) := dk_46 (dk_at dksX8_back_6 16 rfl rfl)
theorem dX8_back_153 : decode cX8_back 153 = .ok (.putfield 116, 3) := dk_181 0 116 (dk_at dksX8_back_6 17 rfl rfl)
theorem dX8_back_156 : decode cX8_back 156 = .ok (.aload_n 0, 1) := dk_42 (dk_at dksX8_back_6 20 rfl rfl)
theorem dX8_back_157 : decode cX8_back 157 = .ok (.aload_n 0, 1) := dk_42 (dk_at dksX8_back_6 21 rfl rfl)
theorem dX8_back_158 : decode cX8_back 158 = .ok (.getfield 55, 3) := dk_180 0 55 (dk_at dksX8_back_7 0 rfl rfl)
theorem dX8_back_161 : decode cX8_back 161 = .ok (.bipush 44, 2) := dk_16 44 (dk_at dksX8_back_7 3 rfl rfl)
theorem dX8_back_163 : decode cX8_back 163 = .ok (.iaload, 1) := dk_46 (dk_at dksX8_back_7 5 rfl rfl)
theorem dX8_back_164 : decode cX8_back 164 = .ok (.putfield 142, 3) := dk_181 0 142 (dk_at dksX8_back_7 6 rfl rfl)
theorem dX8_back_167 : decode cX8_back 167 = .ok (.aload_n 0, 1) := dk_42 (dk_at dksX8_back_7 9 rfl rfl)
theorem dX8_back_168 : decode cX8_back 168 = .ok (.aload_n 0, 1) := dk_42 (dk_at dksX8_back_7 10 rfl rfl)
theorem dX8_back_169 : decode cX8_back 169 = .ok (.getfield 55, 3) := dk_180 0 55 (dk_at dksX8_back_7 11 rfl rfl)
theorem dX8_back_172 : decode cX8_back 172 = .ok (.bipush 45, 2) := dk_16 45 (dk_at dksX8_back_7 14 rfl rfl)
theorem dX8_back_174 : decode cX8_back 174 = .ok (.iaload, 1) := dk_46 (dk_at dksX8_back_7 16 rfl rfl)
theorem dX8_back_175 : decode cX8_back 175 = .ok (.putfield 74, 3) := dk_181 0 74 (dk_at dksX8_back_7 17 rfl rfl)
theorem dX8_back_178 : decode cX8_back 178 = .ok (.aload_n 0, 1) := dk_42 (dk_at dksX8_back_7 20 rfl rfl)
theorem dX8_back_179 : decode cX8_back 179 = .ok (.aload_n 0, 1) := dk_42 (dk_at dksX8_back_7 21 rfl rfl)
theorem dX8_back_180 : decode cX8_back 180 = .ok (.getfield 55, 3) := dk_180 0 55 (dk_at dksX8_back_8 0 rfl rfl)
theorem dX8_back_183 : decode cX8_back 183 = .ok (.bipush 46, 2) := dk_16 46 (dk_at dksX8_back_8 3 rfl rfl)
theorem dX8_back_185 : decode cX8_back 185 = .ok (.iaload, 1) := dk_46 (dk_at dksX8_back_8 5 rfl rfl)
theorem dX8_back_186 : decode cX8_back 186 = .ok (.putfield 77, 3) := dk_181 0 77 (dk_at dksX8_back_8 6 rfl rfl)
theorem dX8_back_189 : decode cX8_back 189 = .ok (.aload_n 0, 1) := dk_42 (dk_at dksX8_back_8 9 rfl rfl)
theorem dX8_back_190 : decode cX8_back 190 = .ok (.aload_n 0, 1) := dk_42 (dk_at dksX8_back_8 10 rfl rfl)
theorem dX8_back_191 : decode cX8_back 191 = .ok (.getfield 55, 3) := dk_180 0 55 (dk_at dksX8_back_8 11 rfl rfl)
theorem dX8_back_194 : decode cX8_back 194 = .ok (.bipush 47, 2) := dk_16 47 (dk_at dksX8_back_8 14 rfl rfl)
theorem dX8_back_196 : decode cX8_back 196 = .ok (.iaload, 1) := dk_46 (dk_at dksX8_back_8 16 rfl rfl)
theorem dX8_back_197 : decode cX8_back 197 = .ok (.putfield 119, 3) := dk_181 0 119 (dk_at dksX8_back_8 17 rfl rfl)
theorem dX8_back_200 : decode cX8_back 200 = .ok (.aload_n 0, 1) := dk_42 (dk_at dksX8_back_8 20 rfl rfl)
theorem dX8_back_201 : decode cX8_back 201 = .ok (.aload_n 0, 1) := dk_42 (dk_at dksX8_back_8 21 rfl rfl)
theorem dX8_back_202 : decode cX8_back 202 = .ok (.getfield 55, 3) := dk_180 0 55 (dk_at dksX8_back_9 0 rfl rfl)
theorem dX8_back_205 : decode cX8_back 205 = .ok (.bipush 48, 2) := dk_16 48 (dk_at dksX8_back_9 3 rfl rfl)
theorem dX8_back_207 : decode cX8_back 207 = .ok (.iaload, 1) := dk_46 (dk_at dksX8_back_9 5 rfl rfl)
theorem dX8_back_208 : decode cX8_back 208 = .ok (.putfield 249, 3) := dk_181 0 249 (dk_at dksX8_back_9 6 rfl rfl)
theorem dX8_back_211 : decode cX8_back 211 = .ok (.aload_n 0, 1) := dk_42 (dk_at dksX8_back_9 9 rfl rfl)
theorem dX8_back_212 : decode cX8_back 212 = .ok (.aload_n 0, 1) := dk_42 (dk_at dksX8_back_9 10 rfl rfl)
theorem dX8_back_213 : decode cX8_back 213 = .ok (.getfield 55, 3) := dk_180 0 55 (dk_at dksX8_back_9 11 rfl rfl)
theorem dX8_back_216 : decode cX8_back 216 = .ok (.bipush 49, 2) := dk_16 49 (dk_at dksX8_back_9 14 rfl rfl)
theorem dX8_back_218 : decode cX8_back 218 = .ok (.iaload, 1) := dk_46 (dk_at dksX8_back_9 16 rfl rfl)
theorem dX8_back_219 : decode cX8_back 219 = .ok (.putfield 129, 3) := dk_181 0 129 (dk_at dksX8_back_9 17 rfl rfl)
theorem dX8_back_222 : decode cX8_back 222 = .ok (.aload_n 0, 1) := dk_42 (dk_at dksX8_back_9 20 rfl rfl)
theorem dX8_back_223 : decode cX8_back 223 = .ok (.getfield 99, 3) := dk_180 0 99 (dk_at dksX8_back_9 21 rfl rfl)
theorem dX8_back_226 : decode cX8_back 226 = .ok (.ireturn, 1) := dk_172 (dk_at dksX8_back_10 0 rfl rfl)
abbrev cX8_count : ByteArray := prog_16_method_56_code
def yX8_count : MethodName := ⟨RX8, "count", "(I)I"⟩
def dkwX8_count_4 : List UInt8 := [42, 180, 0, 129, 172, 16, 254, 172]
abbrev dktX8_count_4 : List UInt8 := dkwX8_count_4 ++ []
def dkwX8_count_3 : List UInt8 := [180, 0, 142, 172, 42, 180, 0, 249, 172, 42, 180, 0, 119, 172, 42, 180, 0, 190, 172, 42, 180, 0, 156, 172]
abbrev dktX8_count_3 : List UInt8 := dkwX8_count_3 ++ dktX8_count_4
def dkwX8_count_2 : List UInt8 := [42, 180, 0, 99, 172, 42, 3, 182, 1, 44, 172, 42, 4, 182, 1, 44, 172, 42, 5, 182, 1, 44, 172, 42]
abbrev dktX8_count_2 : List UInt8 := dkwX8_count_2 ++ dktX8_count_3
def dkwX8_count_1 : List UInt8 := [170, 0, 0, 0, 0, 0, 108, 0, 0, 0, 0, 0, 0, 0, 9, 0, 0, 0, 55, 0, 0, 0, 60, 0, 0, 0, 66, 0, 0, 0, 72, 0, 0, 0, 78, 0, 0, 0, 83, 0, 0, 0, 88, 0, 0, 0, 93, 0, 0, 0, 98, 0, 0, 0, 103]
abbrev dktX8_count_1 : List UInt8 := dkwX8_count_1 ++ dktX8_count_2
def dkwX8_count_0 : List UInt8 := [27]
abbrev dktX8_count_0 : List UInt8 := dkwX8_count_0 ++ dktX8_count_1
theorem dksX8_count_0 : cX8_count.data.toList.drop 0 = dktX8_count_0 := by decide +kernel
theorem dksX8_count_1 : cX8_count.data.toList.drop 1 = dktX8_count_1 := dk_seg dksX8_count_0 1 rfl rfl
theorem dksX8_count_2 : cX8_count.data.toList.drop 56 = dktX8_count_2 := dk_seg dksX8_count_1 55 rfl rfl
theorem dksX8_count_3 : cX8_count.data.toList.drop 80 = dktX8_count_3 := dk_seg dksX8_count_2 24 rfl rfl
theorem dksX8_count_4 : cX8_count.data.toList.drop 104 = dktX8_count_4 := dk_seg dksX8_count_3 24 rfl rfl
theorem dX8_count_0 : decode cX8_count 0 = .ok (.iload_n 1, 1) := dk_27 (dk_at dksX8_count_0 0 rfl rfl)
theorem dX8_count_1 : decode cX8_count 1 = .ok (.tableswitch 108 0 9 #[55, 60, 66, 72, 78, 83, 88, 93, 98, 103], 55) := by decide +kernel
theorem dX8_count_56 : decode cX8_count 56 = .ok (.aload_n 0, 1) := dk_42 (dk_at dksX8_count_2 0 rfl rfl)
theorem dX8_count_57 : decode cX8_count 57 = .ok (.getfield 99, 3) := dk_180 0 99 (dk_at dksX8_count_2 1 rfl rfl)
theorem dX8_count_60 : decode cX8_count 60 = .ok (.ireturn, 1) := dk_172 (dk_at dksX8_count_2 4 rfl rfl)
theorem dX8_count_61 : decode cX8_count 61 = .ok (.aload_n 0, 1) := dk_42 (dk_at dksX8_count_2 5 rfl rfl)
theorem dX8_count_62 : decode cX8_count 62 = .ok (.iconst 0, 1) := dk_3 (dk_at dksX8_count_2 6 rfl rfl)
theorem dX8_count_63 : decode cX8_count 63 = .ok (.invokevirtual 300, 3) := dk_182 1 44 (dk_at dksX8_count_2 7 rfl rfl)
theorem dX8_count_66 : decode cX8_count 66 = .ok (.ireturn, 1) := dk_172 (dk_at dksX8_count_2 10 rfl rfl)
theorem dX8_count_67 : decode cX8_count 67 = .ok (.aload_n 0, 1) := dk_42 (dk_at dksX8_count_2 11 rfl rfl)
theorem dX8_count_68 : decode cX8_count 68 = .ok (.iconst 1, 1) := dk_4 (dk_at dksX8_count_2 12 rfl rfl)
theorem dX8_count_69 : decode cX8_count 69 = .ok (.invokevirtual 300, 3) := dk_182 1 44 (dk_at dksX8_count_2 13 rfl rfl)
theorem dX8_count_72 : decode cX8_count 72 = .ok (.ireturn, 1) := dk_172 (dk_at dksX8_count_2 16 rfl rfl)
theorem dX8_count_73 : decode cX8_count 73 = .ok (.aload_n 0, 1) := dk_42 (dk_at dksX8_count_2 17 rfl rfl)
theorem dX8_count_74 : decode cX8_count 74 = .ok (.iconst 2, 1) := dk_5 (dk_at dksX8_count_2 18 rfl rfl)
theorem dX8_count_75 : decode cX8_count 75 = .ok (.invokevirtual 300, 3) := dk_182 1 44 (dk_at dksX8_count_2 19 rfl rfl)
theorem dX8_count_78 : decode cX8_count 78 = .ok (.ireturn, 1) := dk_172 (dk_at dksX8_count_2 22 rfl rfl)
theorem dX8_count_79 : decode cX8_count 79 = .ok (.aload_n 0, 1) := dk_42 (dk_at dksX8_count_2 23 rfl rfl)
theorem dX8_count_80 : decode cX8_count 80 = .ok (.getfield 142, 3) := dk_180 0 142 (dk_at dksX8_count_3 0 rfl rfl)
theorem dX8_count_83 : decode cX8_count 83 = .ok (.ireturn, 1) := dk_172 (dk_at dksX8_count_3 3 rfl rfl)
theorem dX8_count_84 : decode cX8_count 84 = .ok (.aload_n 0, 1) := dk_42 (dk_at dksX8_count_3 4 rfl rfl)
theorem dX8_count_85 : decode cX8_count 85 = .ok (.getfield 249, 3) := dk_180 0 249 (dk_at dksX8_count_3 5 rfl rfl)
theorem dX8_count_88 : decode cX8_count 88 = .ok (.ireturn, 1) := dk_172 (dk_at dksX8_count_3 8 rfl rfl)
theorem dX8_count_89 : decode cX8_count 89 = .ok (.aload_n 0, 1) := dk_42 (dk_at dksX8_count_3 9 rfl rfl)
theorem dX8_count_90 : decode cX8_count 90 = .ok (.getfield 119, 3) := dk_180 0 119 (dk_at dksX8_count_3 10 rfl rfl)
theorem dX8_count_93 : decode cX8_count 93 = .ok (.ireturn, 1) := dk_172 (dk_at dksX8_count_3 13 rfl rfl)
theorem dX8_count_94 : decode cX8_count 94 = .ok (.aload_n 0, 1) := dk_42 (dk_at dksX8_count_3 14 rfl rfl)
theorem dX8_count_95 : decode cX8_count 95 = .ok (.getfield 190, 3) := dk_180 0 190 (dk_at dksX8_count_3 15 rfl rfl)
theorem dX8_count_98 : decode cX8_count 98 = .ok (.ireturn, 1) := dk_172 (dk_at dksX8_count_3 18 rfl rfl)
theorem dX8_count_99 : decode cX8_count 99 = .ok (.aload_n 0, 1) := dk_42 (dk_at dksX8_count_3 19 rfl rfl)
theorem dX8_count_100 : decode cX8_count 100 = .ok (.getfield 156, 3) := dk_180 0 156 (dk_at dksX8_count_3 20 rfl rfl)
theorem dX8_count_103 : decode cX8_count 103 = .ok (.ireturn, 1) := dk_172 (dk_at dksX8_count_3 23 rfl rfl)
theorem dX8_count_104 : decode cX8_count 104 = .ok (.aload_n 0, 1) := dk_42 (dk_at dksX8_count_4 0 rfl rfl)
theorem dX8_count_105 : decode cX8_count 105 = .ok (.getfield 129, 3) := dk_180 0 129 (dk_at dksX8_count_4 1 rfl rfl)
theorem dX8_count_108 : decode cX8_count 108 = .ok (.ireturn, 1) := dk_172 (dk_at dksX8_count_4 4 rfl rfl)
theorem dX8_count_109 : decode cX8_count 109 = .ok (.bipush (-2), 2) := dk_16 254 (dk_at dksX8_count_4 5 rfl rfl)
theorem dX8_count_111 : decode cX8_count 111 = .ok (.ireturn, 1) := dk_172 (dk_at dksX8_count_4 7 rfl rfl)
abbrev cX8_thoseWho : ByteArray := prog_16_method_55_code
def yX8_thoseWho : MethodName := ⟨RX8, "thoseWho", "(I)I"⟩
def dkwX8_thoseWho_1 : List UInt8 := [132, 2, 1, 132, 3, 1, 167, 255, 232, 28, 172]
abbrev dktX8_thoseWho_1 : List UInt8 := dkwX8_thoseWho_1 ++ []
def dkwX8_thoseWho_0 : List UInt8 := [3, 61, 3, 62, 29, 42, 180, 0, 99, 162, 0, 22, 42, 180, 0, 25, 29, 46, 27, 160, 0, 6]
abbrev dktX8_thoseWho_0 : List UInt8 := dkwX8_thoseWho_0 ++ dktX8_thoseWho_1
theorem dksX8_thoseWho_0 : cX8_thoseWho.data.toList.drop 0 = dktX8_thoseWho_0 := by decide +kernel
theorem dksX8_thoseWho_1 : cX8_thoseWho.data.toList.drop 22 = dktX8_thoseWho_1 := dk_seg dksX8_thoseWho_0 22 rfl rfl
theorem dX8_thoseWho_0 : decode cX8_thoseWho 0 = .ok (.iconst 0, 1) := dk_3 (dk_at dksX8_thoseWho_0 0 rfl rfl)
theorem dX8_thoseWho_1 : decode cX8_thoseWho 1 = .ok (.istore_n 2, 1) := dk_61 (dk_at dksX8_thoseWho_0 1 rfl rfl)
theorem dX8_thoseWho_2 : decode cX8_thoseWho 2 = .ok (.iconst 0, 1) := dk_3 (dk_at dksX8_thoseWho_0 2 rfl rfl)
theorem dX8_thoseWho_3 : decode cX8_thoseWho 3 = .ok (.istore_n 3, 1) := dk_62 (dk_at dksX8_thoseWho_0 3 rfl rfl)
theorem dX8_thoseWho_4 : decode cX8_thoseWho 4 = .ok (.iload_n 3, 1) := dk_29 (dk_at dksX8_thoseWho_0 4 rfl rfl)
theorem dX8_thoseWho_5 : decode cX8_thoseWho 5 = .ok (.aload_n 0, 1) := dk_42 (dk_at dksX8_thoseWho_0 5 rfl rfl)
theorem dX8_thoseWho_6 : decode cX8_thoseWho 6 = .ok (.getfield 99, 3) := dk_180 0 99 (dk_at dksX8_thoseWho_0 6 rfl rfl)
theorem dX8_thoseWho_9 : decode cX8_thoseWho 9 = .ok (.if_icmp .ge 22, 3) := dk_162 0 22 (dk_at dksX8_thoseWho_0 9 rfl rfl)
theorem dX8_thoseWho_12 : decode cX8_thoseWho 12 = .ok (.aload_n 0, 1) := dk_42 (dk_at dksX8_thoseWho_0 12 rfl rfl)
theorem dX8_thoseWho_13 : decode cX8_thoseWho 13 = .ok (.getfield 25, 3) := dk_180 0 25 (dk_at dksX8_thoseWho_0 13 rfl rfl)
theorem dX8_thoseWho_16 : decode cX8_thoseWho 16 = .ok (.iload_n 3, 1) := dk_29 (dk_at dksX8_thoseWho_0 16 rfl rfl)
theorem dX8_thoseWho_17 : decode cX8_thoseWho 17 = .ok (.iaload, 1) := dk_46 (dk_at dksX8_thoseWho_0 17 rfl rfl)
theorem dX8_thoseWho_18 : decode cX8_thoseWho 18 = .ok (.iload_n 1, 1) := dk_27 (dk_at dksX8_thoseWho_0 18 rfl rfl)
theorem dX8_thoseWho_19 : decode cX8_thoseWho 19 = .ok (.if_icmp .ne 6, 3) := dk_160 0 6 (dk_at dksX8_thoseWho_0 19 rfl rfl)
theorem dX8_thoseWho_22 : decode cX8_thoseWho 22 = .ok (.iinc 2 1, 3) := dk_132 2 1 (dk_at dksX8_thoseWho_1 0 rfl rfl)
theorem dX8_thoseWho_25 : decode cX8_thoseWho 25 = .ok (.iinc 3 1, 3) := dk_132 3 1 (dk_at dksX8_thoseWho_1 3 rfl rfl)
theorem dX8_thoseWho_28 : decode cX8_thoseWho 28 = .ok (.goto (-24), 3) := dk_167 255 232 (dk_at dksX8_thoseWho_1 6 rfl rfl)
theorem dX8_thoseWho_31 : decode cX8_thoseWho 31 = .ok (.iload_n 2, 1) := dk_28 (dk_at dksX8_thoseWho_1 9 rfl rfl)
theorem dX8_thoseWho_32 : decode cX8_thoseWho 32 = .ok (.ireturn, 1) := dk_172 (dk_at dksX8_thoseWho_1 10 rfl rfl)
abbrev cX8_sheet : ByteArray := prog_16_method_57_code
def yX8_sheet : MethodName := ⟨RX8, "sheet", "(III)I"⟩
def dkwX8_sheet_4 : List UInt8 := [167, 255, 233, 4, 172]
abbrev dktX8_sheet_4 : List UInt8 := dkwX8_sheet_4 ++ []
def dkwX8_sheet_3 : List UInt8 := [21, 4, 16, 40, 162, 0, 22, 42, 180, 0, 64, 16, 40, 27, 104, 21, 4, 96, 3, 79, 132, 4, 1]
abbrev dktX8_sheet_3 : List UInt8 := dkwX8_sheet_3 ++ dktX8_sheet_4
def dkwX8_sheet_2 : List UInt8 := [156, 0, 6, 16, 242, 172, 42, 180, 0, 58, 27, 28, 79, 42, 180, 0, 61, 27, 29, 79, 3, 54, 4]
abbrev dktX8_sheet_2 : List UInt8 := dkwX8_sheet_2 ++ dktX8_sheet_3
def dkwX8_sheet_1 : List UInt8 := [160, 0, 12, 42, 180, 0, 58, 27, 2, 79, 4, 172, 29, 16, 40, 164, 0, 6, 16, 254, 172, 29]
abbrev dktX8_sheet_1 : List UInt8 := dkwX8_sheet_1 ++ dktX8_sheet_2
def dkwX8_sheet_0 : List UInt8 := [27, 3, 6, 184, 0, 102, 153, 0, 12, 28, 2, 5, 184, 0, 102, 154, 0, 6, 16, 254, 172, 28, 2]
abbrev dktX8_sheet_0 : List UInt8 := dkwX8_sheet_0 ++ dktX8_sheet_1
theorem dksX8_sheet_0 : cX8_sheet.data.toList.drop 0 = dktX8_sheet_0 := by decide +kernel
theorem dksX8_sheet_1 : cX8_sheet.data.toList.drop 23 = dktX8_sheet_1 := dk_seg dksX8_sheet_0 23 rfl rfl
theorem dksX8_sheet_2 : cX8_sheet.data.toList.drop 45 = dktX8_sheet_2 := dk_seg dksX8_sheet_1 22 rfl rfl
theorem dksX8_sheet_3 : cX8_sheet.data.toList.drop 68 = dktX8_sheet_3 := dk_seg dksX8_sheet_2 23 rfl rfl
theorem dksX8_sheet_4 : cX8_sheet.data.toList.drop 91 = dktX8_sheet_4 := dk_seg dksX8_sheet_3 23 rfl rfl
theorem dX8_sheet_0 : decode cX8_sheet 0 = .ok (.iload_n 1, 1) := dk_27 (dk_at dksX8_sheet_0 0 rfl rfl)
theorem dX8_sheet_1 : decode cX8_sheet 1 = .ok (.iconst 0, 1) := dk_3 (dk_at dksX8_sheet_0 1 rfl rfl)
theorem dX8_sheet_2 : decode cX8_sheet 2 = .ok (.iconst 3, 1) := dk_6 (dk_at dksX8_sheet_0 2 rfl rfl)
theorem dX8_sheet_3 : decode cX8_sheet 3 = .ok (.invokestatic 102, 3) := dk_184 0 102 (dk_at dksX8_sheet_0 3 rfl rfl)
theorem dX8_sheet_6 : decode cX8_sheet 6 = .ok (.ifCond .eq 12, 3) := dk_153 0 12 (dk_at dksX8_sheet_0 6 rfl rfl)
theorem dX8_sheet_9 : decode cX8_sheet 9 = .ok (.iload_n 2, 1) := dk_28 (dk_at dksX8_sheet_0 9 rfl rfl)
theorem dX8_sheet_10 : decode cX8_sheet 10 = .ok (.iconst (-1), 1) := dk_2 (dk_at dksX8_sheet_0 10 rfl rfl)
theorem dX8_sheet_11 : decode cX8_sheet 11 = .ok (.iconst 2, 1) := dk_5 (dk_at dksX8_sheet_0 11 rfl rfl)
theorem dX8_sheet_12 : decode cX8_sheet 12 = .ok (.invokestatic 102, 3) := dk_184 0 102 (dk_at dksX8_sheet_0 12 rfl rfl)
theorem dX8_sheet_15 : decode cX8_sheet 15 = .ok (.ifCond .ne 6, 3) := dk_154 0 6 (dk_at dksX8_sheet_0 15 rfl rfl)
theorem dX8_sheet_18 : decode cX8_sheet 18 = .ok (.bipush (-2), 2) := dk_16 254 (dk_at dksX8_sheet_0 18 rfl rfl)
theorem dX8_sheet_20 : decode cX8_sheet 20 = .ok (.ireturn, 1) := dk_172 (dk_at dksX8_sheet_0 20 rfl rfl)
theorem dX8_sheet_21 : decode cX8_sheet 21 = .ok (.iload_n 2, 1) := dk_28 (dk_at dksX8_sheet_0 21 rfl rfl)
theorem dX8_sheet_22 : decode cX8_sheet 22 = .ok (.iconst (-1), 1) := dk_2 (dk_at dksX8_sheet_0 22 rfl rfl)
theorem dX8_sheet_23 : decode cX8_sheet 23 = .ok (.if_icmp .ne 12, 3) := dk_160 0 12 (dk_at dksX8_sheet_1 0 rfl rfl)
theorem dX8_sheet_26 : decode cX8_sheet 26 = .ok (.aload_n 0, 1) := dk_42 (dk_at dksX8_sheet_1 3 rfl rfl)
theorem dX8_sheet_27 : decode cX8_sheet 27 = .ok (.getfield 58, 3) := dk_180 0 58 (dk_at dksX8_sheet_1 4 rfl rfl)
theorem dX8_sheet_30 : decode cX8_sheet 30 = .ok (.iload_n 1, 1) := dk_27 (dk_at dksX8_sheet_1 7 rfl rfl)
theorem dX8_sheet_31 : decode cX8_sheet 31 = .ok (.iconst (-1), 1) := dk_2 (dk_at dksX8_sheet_1 8 rfl rfl)
theorem dX8_sheet_32 : decode cX8_sheet 32 = .ok (.iastore, 1) := dk_79 (dk_at dksX8_sheet_1 9 rfl rfl)
theorem dX8_sheet_33 : decode cX8_sheet 33 = .ok (.iconst 1, 1) := dk_4 (dk_at dksX8_sheet_1 10 rfl rfl)
theorem dX8_sheet_34 : decode cX8_sheet 34 = .ok (.ireturn, 1) := dk_172 (dk_at dksX8_sheet_1 11 rfl rfl)
theorem dX8_sheet_35 : decode cX8_sheet 35 = .ok (.iload_n 3, 1) := dk_29 (dk_at dksX8_sheet_1 12 rfl rfl)
theorem dX8_sheet_36 : decode cX8_sheet 36 = .ok (.bipush 40, 2) := dk_16 40 (dk_at dksX8_sheet_1 13 rfl rfl)
theorem dX8_sheet_38 : decode cX8_sheet 38 = .ok (.if_icmp .le 6, 3) := dk_164 0 6 (dk_at dksX8_sheet_1 15 rfl rfl)
theorem dX8_sheet_41 : decode cX8_sheet 41 = .ok (.bipush (-2), 2) := dk_16 254 (dk_at dksX8_sheet_1 18 rfl rfl)
theorem dX8_sheet_43 : decode cX8_sheet 43 = .ok (.ireturn, 1) := dk_172 (dk_at dksX8_sheet_1 20 rfl rfl)
theorem dX8_sheet_44 : decode cX8_sheet 44 = .ok (.iload_n 3, 1) := dk_29 (dk_at dksX8_sheet_1 21 rfl rfl)
theorem dX8_sheet_45 : decode cX8_sheet 45 = .ok (.ifCond .ge 6, 3) := dk_156 0 6 (dk_at dksX8_sheet_2 0 rfl rfl)
theorem dX8_sheet_48 : decode cX8_sheet 48 = .ok (.bipush (-14), 2) := dk_16 242 (dk_at dksX8_sheet_2 3 rfl rfl)
theorem dX8_sheet_50 : decode cX8_sheet 50 = .ok (.ireturn, 1) := dk_172 (dk_at dksX8_sheet_2 5 rfl rfl)
theorem dX8_sheet_51 : decode cX8_sheet 51 = .ok (.aload_n 0, 1) := dk_42 (dk_at dksX8_sheet_2 6 rfl rfl)
theorem dX8_sheet_52 : decode cX8_sheet 52 = .ok (.getfield 58, 3) := dk_180 0 58 (dk_at dksX8_sheet_2 7 rfl rfl)
theorem dX8_sheet_55 : decode cX8_sheet 55 = .ok (.iload_n 1, 1) := dk_27 (dk_at dksX8_sheet_2 10 rfl rfl)
theorem dX8_sheet_56 : decode cX8_sheet 56 = .ok (.iload_n 2, 1) := dk_28 (dk_at dksX8_sheet_2 11 rfl rfl)
theorem dX8_sheet_57 : decode cX8_sheet 57 = .ok (.iastore, 1) := dk_79 (dk_at dksX8_sheet_2 12 rfl rfl)
theorem dX8_sheet_58 : decode cX8_sheet 58 = .ok (.aload_n 0, 1) := dk_42 (dk_at dksX8_sheet_2 13 rfl rfl)
theorem dX8_sheet_59 : decode cX8_sheet 59 = .ok (.getfield 61, 3) := dk_180 0 61 (dk_at dksX8_sheet_2 14 rfl rfl)
theorem dX8_sheet_62 : decode cX8_sheet 62 = .ok (.iload_n 1, 1) := dk_27 (dk_at dksX8_sheet_2 17 rfl rfl)
theorem dX8_sheet_63 : decode cX8_sheet 63 = .ok (.iload_n 3, 1) := dk_29 (dk_at dksX8_sheet_2 18 rfl rfl)
theorem dX8_sheet_64 : decode cX8_sheet 64 = .ok (.iastore, 1) := dk_79 (dk_at dksX8_sheet_2 19 rfl rfl)
theorem dX8_sheet_65 : decode cX8_sheet 65 = .ok (.iconst 0, 1) := dk_3 (dk_at dksX8_sheet_2 20 rfl rfl)
theorem dX8_sheet_66 : decode cX8_sheet 66 = .ok (.istore 4, 2) := dk_54 4 (dk_at dksX8_sheet_2 21 rfl rfl)
theorem dX8_sheet_68 : decode cX8_sheet 68 = .ok (.iload 4, 2) := dk_21 4 (dk_at dksX8_sheet_3 0 rfl rfl)
theorem dX8_sheet_70 : decode cX8_sheet 70 = .ok (.bipush 40, 2) := dk_16 40 (dk_at dksX8_sheet_3 2 rfl rfl)
theorem dX8_sheet_72 : decode cX8_sheet 72 = .ok (.if_icmp .ge 22, 3) := dk_162 0 22 (dk_at dksX8_sheet_3 4 rfl rfl)
theorem dX8_sheet_75 : decode cX8_sheet 75 = .ok (.aload_n 0, 1) := dk_42 (dk_at dksX8_sheet_3 7 rfl rfl)
theorem dX8_sheet_76 : decode cX8_sheet 76 = .ok (.getfield 64, 3) := dk_180 0 64 (dk_at dksX8_sheet_3 8 rfl rfl)
theorem dX8_sheet_79 : decode cX8_sheet 79 = .ok (.bipush 40, 2) := dk_16 40 (dk_at dksX8_sheet_3 11 rfl rfl)
theorem dX8_sheet_81 : decode cX8_sheet 81 = .ok (.iload_n 1, 1) := dk_27 (dk_at dksX8_sheet_3 13 rfl rfl)
theorem dX8_sheet_82 : decode cX8_sheet 82 = .ok (.imul, 1) := dk_104 (dk_at dksX8_sheet_3 14 rfl rfl)
theorem dX8_sheet_83 : decode cX8_sheet 83 = .ok (.iload 4, 2) := dk_21 4 (dk_at dksX8_sheet_3 15 rfl rfl)
theorem dX8_sheet_85 : decode cX8_sheet 85 = .ok (.iadd, 1) := dk_96 (dk_at dksX8_sheet_3 17 rfl rfl)
theorem dX8_sheet_86 : decode cX8_sheet 86 = .ok (.iconst 0, 1) := dk_3 (dk_at dksX8_sheet_3 18 rfl rfl)
theorem dX8_sheet_87 : decode cX8_sheet 87 = .ok (.iastore, 1) := dk_79 (dk_at dksX8_sheet_3 19 rfl rfl)
theorem dX8_sheet_88 : decode cX8_sheet 88 = .ok (.iinc 4 1, 3) := dk_132 4 1 (dk_at dksX8_sheet_3 20 rfl rfl)
theorem dX8_sheet_91 : decode cX8_sheet 91 = .ok (.goto (-23), 3) := dk_167 255 233 (dk_at dksX8_sheet_4 0 rfl rfl)
theorem dX8_sheet_94 : decode cX8_sheet 94 = .ok (.iconst 1, 1) := dk_4 (dk_at dksX8_sheet_4 3 rfl rfl)
theorem dX8_sheet_95 : decode cX8_sheet 95 = .ok (.ireturn, 1) := dk_172 (dk_at dksX8_sheet_4 4 rfl rfl)
abbrev cX8_cell : ByteArray := prog_16_method_58_code
def yX8_cell : MethodName := ⟨RX8, "cell", "(III)I"⟩
def dkwX8_cell_3 : List UInt8 := [27, 46, 4, 160, 0, 8, 29, 147, 167, 0, 4, 29, 79, 4, 172]
abbrev dktX8_cell_3 : List UInt8 := dkwX8_cell_3 ++ []
def dkwX8_cell_2 : List UInt8 := [16, 40, 27, 104, 28, 96, 42, 180, 0, 58, 27, 46, 154, 0, 8, 29, 145, 167, 0, 19, 42, 180, 0, 58]
abbrev dktX8_cell_2 : List UInt8 := dkwX8_cell_2 ++ dktX8_cell_3
def dkwX8_cell_1 : List UInt8 := [172, 28, 3, 42, 180, 0, 61, 27, 46, 4, 100, 184, 0, 102, 154, 0, 6, 16, 244, 172, 42, 180, 0, 64]
abbrev dktX8_cell_1 : List UInt8 := dkwX8_cell_1 ++ dktX8_cell_2
def dkwX8_cell_0 : List UInt8 := [27, 3, 6, 184, 0, 102, 154, 0, 6, 16, 254, 172, 42, 180, 0, 58, 27, 46, 2, 160, 0, 6, 16, 245]
abbrev dktX8_cell_0 : List UInt8 := dkwX8_cell_0 ++ dktX8_cell_1
theorem dksX8_cell_0 : cX8_cell.data.toList.drop 0 = dktX8_cell_0 := by decide +kernel
theorem dksX8_cell_1 : cX8_cell.data.toList.drop 24 = dktX8_cell_1 := dk_seg dksX8_cell_0 24 rfl rfl
theorem dksX8_cell_2 : cX8_cell.data.toList.drop 48 = dktX8_cell_2 := dk_seg dksX8_cell_1 24 rfl rfl
theorem dksX8_cell_3 : cX8_cell.data.toList.drop 72 = dktX8_cell_3 := dk_seg dksX8_cell_2 24 rfl rfl
theorem dX8_cell_0 : decode cX8_cell 0 = .ok (.iload_n 1, 1) := dk_27 (dk_at dksX8_cell_0 0 rfl rfl)
theorem dX8_cell_1 : decode cX8_cell 1 = .ok (.iconst 0, 1) := dk_3 (dk_at dksX8_cell_0 1 rfl rfl)
theorem dX8_cell_2 : decode cX8_cell 2 = .ok (.iconst 3, 1) := dk_6 (dk_at dksX8_cell_0 2 rfl rfl)
theorem dX8_cell_3 : decode cX8_cell 3 = .ok (.invokestatic 102, 3) := dk_184 0 102 (dk_at dksX8_cell_0 3 rfl rfl)
theorem dX8_cell_6 : decode cX8_cell 6 = .ok (.ifCond .ne 6, 3) := dk_154 0 6 (dk_at dksX8_cell_0 6 rfl rfl)
theorem dX8_cell_9 : decode cX8_cell 9 = .ok (.bipush (-2), 2) := dk_16 254 (dk_at dksX8_cell_0 9 rfl rfl)
theorem dX8_cell_11 : decode cX8_cell 11 = .ok (.ireturn, 1) := dk_172 (dk_at dksX8_cell_0 11 rfl rfl)
theorem dX8_cell_12 : decode cX8_cell 12 = .ok (.aload_n 0, 1) := dk_42 (dk_at dksX8_cell_0 12 rfl rfl)
theorem dX8_cell_13 : decode cX8_cell 13 = .ok (.getfield 58, 3) := dk_180 0 58 (dk_at dksX8_cell_0 13 rfl rfl)
theorem dX8_cell_16 : decode cX8_cell 16 = .ok (.iload_n 1, 1) := dk_27 (dk_at dksX8_cell_0 16 rfl rfl)
theorem dX8_cell_17 : decode cX8_cell 17 = .ok (.iaload, 1) := dk_46 (dk_at dksX8_cell_0 17 rfl rfl)
theorem dX8_cell_18 : decode cX8_cell 18 = .ok (.iconst (-1), 1) := dk_2 (dk_at dksX8_cell_0 18 rfl rfl)
theorem dX8_cell_19 : decode cX8_cell 19 = .ok (.if_icmp .ne 6, 3) := dk_160 0 6 (dk_at dksX8_cell_0 19 rfl rfl)
theorem dX8_cell_22 : decode cX8_cell 22 = .ok (.bipush (-11), 2) := dk_16 245 (dk_at dksX8_cell_0 22 rfl rfl)
theorem dX8_cell_24 : decode cX8_cell 24 = .ok (.ireturn, 1) := dk_172 (dk_at dksX8_cell_1 0 rfl rfl)
theorem dX8_cell_25 : decode cX8_cell 25 = .ok (.iload_n 2, 1) := dk_28 (dk_at dksX8_cell_1 1 rfl rfl)
theorem dX8_cell_26 : decode cX8_cell 26 = .ok (.iconst 0, 1) := dk_3 (dk_at dksX8_cell_1 2 rfl rfl)
theorem dX8_cell_27 : decode cX8_cell 27 = .ok (.aload_n 0, 1) := dk_42 (dk_at dksX8_cell_1 3 rfl rfl)
theorem dX8_cell_28 : decode cX8_cell 28 = .ok (.getfield 61, 3) := dk_180 0 61 (dk_at dksX8_cell_1 4 rfl rfl)
theorem dX8_cell_31 : decode cX8_cell 31 = .ok (.iload_n 1, 1) := dk_27 (dk_at dksX8_cell_1 7 rfl rfl)
theorem dX8_cell_32 : decode cX8_cell 32 = .ok (.iaload, 1) := dk_46 (dk_at dksX8_cell_1 8 rfl rfl)
theorem dX8_cell_33 : decode cX8_cell 33 = .ok (.iconst 1, 1) := dk_4 (dk_at dksX8_cell_1 9 rfl rfl)
theorem dX8_cell_34 : decode cX8_cell 34 = .ok (.isub, 1) := dk_100 (dk_at dksX8_cell_1 10 rfl rfl)
theorem dX8_cell_35 : decode cX8_cell 35 = .ok (.invokestatic 102, 3) := dk_184 0 102 (dk_at dksX8_cell_1 11 rfl rfl)
theorem dX8_cell_38 : decode cX8_cell 38 = .ok (.ifCond .ne 6, 3) := dk_154 0 6 (dk_at dksX8_cell_1 14 rfl rfl)
theorem dX8_cell_41 : decode cX8_cell 41 = .ok (.bipush (-12), 2) := dk_16 244 (dk_at dksX8_cell_1 17 rfl rfl)
theorem dX8_cell_43 : decode cX8_cell 43 = .ok (.ireturn, 1) := dk_172 (dk_at dksX8_cell_1 19 rfl rfl)
theorem dX8_cell_44 : decode cX8_cell 44 = .ok (.aload_n 0, 1) := dk_42 (dk_at dksX8_cell_1 20 rfl rfl)
theorem dX8_cell_45 : decode cX8_cell 45 = .ok (.getfield 64, 3) := dk_180 0 64 (dk_at dksX8_cell_1 21 rfl rfl)
theorem dX8_cell_48 : decode cX8_cell 48 = .ok (.bipush 40, 2) := dk_16 40 (dk_at dksX8_cell_2 0 rfl rfl)
theorem dX8_cell_50 : decode cX8_cell 50 = .ok (.iload_n 1, 1) := dk_27 (dk_at dksX8_cell_2 2 rfl rfl)
theorem dX8_cell_51 : decode cX8_cell 51 = .ok (.imul, 1) := dk_104 (dk_at dksX8_cell_2 3 rfl rfl)
theorem dX8_cell_52 : decode cX8_cell 52 = .ok (.iload_n 2, 1) := dk_28 (dk_at dksX8_cell_2 4 rfl rfl)
theorem dX8_cell_53 : decode cX8_cell 53 = .ok (.iadd, 1) := dk_96 (dk_at dksX8_cell_2 5 rfl rfl)
theorem dX8_cell_54 : decode cX8_cell 54 = .ok (.aload_n 0, 1) := dk_42 (dk_at dksX8_cell_2 6 rfl rfl)
theorem dX8_cell_55 : decode cX8_cell 55 = .ok (.getfield 58, 3) := dk_180 0 58 (dk_at dksX8_cell_2 7 rfl rfl)
theorem dX8_cell_58 : decode cX8_cell 58 = .ok (.iload_n 1, 1) := dk_27 (dk_at dksX8_cell_2 10 rfl rfl)
theorem dX8_cell_59 : decode cX8_cell 59 = .ok (.iaload, 1) := dk_46 (dk_at dksX8_cell_2 11 rfl rfl)
theorem dX8_cell_60 : decode cX8_cell 60 = .ok (.ifCond .ne 8, 3) := dk_154 0 8 (dk_at dksX8_cell_2 12 rfl rfl)
theorem dX8_cell_63 : decode cX8_cell 63 = .ok (.iload_n 3, 1) := dk_29 (dk_at dksX8_cell_2 15 rfl rfl)
theorem dX8_cell_64 : decode cX8_cell 64 = .ok (.i2b, 1) := dk_145 (dk_at dksX8_cell_2 16 rfl rfl)
theorem dX8_cell_65 : decode cX8_cell 65 = .ok (.goto 19, 3) := dk_167 0 19 (dk_at dksX8_cell_2 17 rfl rfl)
theorem dX8_cell_68 : decode cX8_cell 68 = .ok (.aload_n 0, 1) := dk_42 (dk_at dksX8_cell_2 20 rfl rfl)
theorem dX8_cell_69 : decode cX8_cell 69 = .ok (.getfield 58, 3) := dk_180 0 58 (dk_at dksX8_cell_2 21 rfl rfl)
theorem dX8_cell_72 : decode cX8_cell 72 = .ok (.iload_n 1, 1) := dk_27 (dk_at dksX8_cell_3 0 rfl rfl)
theorem dX8_cell_73 : decode cX8_cell 73 = .ok (.iaload, 1) := dk_46 (dk_at dksX8_cell_3 1 rfl rfl)
theorem dX8_cell_74 : decode cX8_cell 74 = .ok (.iconst 1, 1) := dk_4 (dk_at dksX8_cell_3 2 rfl rfl)
theorem dX8_cell_75 : decode cX8_cell 75 = .ok (.if_icmp .ne 8, 3) := dk_160 0 8 (dk_at dksX8_cell_3 3 rfl rfl)
theorem dX8_cell_78 : decode cX8_cell 78 = .ok (.iload_n 3, 1) := dk_29 (dk_at dksX8_cell_3 6 rfl rfl)
theorem dX8_cell_79 : decode cX8_cell 79 = .ok (.i2s, 1) := dk_147 (dk_at dksX8_cell_3 7 rfl rfl)
theorem dX8_cell_80 : decode cX8_cell 80 = .ok (.goto 4, 3) := dk_167 0 4 (dk_at dksX8_cell_3 8 rfl rfl)
theorem dX8_cell_83 : decode cX8_cell 83 = .ok (.iload_n 3, 1) := dk_29 (dk_at dksX8_cell_3 11 rfl rfl)
theorem dX8_cell_84 : decode cX8_cell 84 = .ok (.iastore, 1) := dk_79 (dk_at dksX8_cell_3 12 rfl rfl)
theorem dX8_cell_85 : decode cX8_cell 85 = .ok (.iconst 1, 1) := dk_4 (dk_at dksX8_cell_3 13 rfl rfl)
theorem dX8_cell_86 : decode cX8_cell 86 = .ok (.ireturn, 1) := dk_172 (dk_at dksX8_cell_3 14 rfl rfl)
abbrev cX8_copy : ByteArray := prog_16_method_59_code
def yX8_copy : MethodName := ⟨RX8, "copy", "(IIIII)I"⟩
def dkwX8_copy_8 : List UInt8 := [167, 255, 224, 21, 5, 172]
abbrev dktX8_copy_8 : List UInt8 := dkwX8_copy_8 ++ []
def dkwX8_copy_7 : List UInt8 := [180, 0, 64, 16, 40, 29, 104, 21, 4, 96, 21, 6, 96, 42, 180, 0, 67, 21, 6, 46, 79, 132, 6, 1]
abbrev dktX8_copy_7 : List UInt8 := dkwX8_copy_7 ++ dktX8_copy_8
def dkwX8_copy_6 : List UInt8 := [28, 96, 21, 6, 96, 46, 79, 132, 6, 1, 167, 255, 225, 3, 54, 6, 21, 6, 21, 5, 162, 0, 31, 42]
abbrev dktX8_copy_6 : List UInt8 := dkwX8_copy_6 ++ dktX8_copy_7
def dkwX8_copy_5 : List UInt8 := [3, 54, 6, 21, 6, 21, 5, 162, 0, 30, 42, 180, 0, 67, 21, 6, 42, 180, 0, 64, 16, 40, 27, 104]
abbrev dktX8_copy_5 : List UInt8 := dkwX8_copy_5 ++ dktX8_copy_6
def dkwX8_copy_4 : List UInt8 := [157, 0, 21, 21, 4, 133, 21, 5, 133, 97, 42, 180, 0, 61, 29, 46, 133, 148, 158, 0, 6, 16, 244, 172]
abbrev dktX8_copy_4 : List UInt8 := dkwX8_copy_4 ++ dktX8_copy_5
def dkwX8_copy_3 : List UInt8 := [155, 0, 43, 21, 5, 155, 0, 38, 28, 133, 21, 5, 133, 97, 42, 180, 0, 61, 27, 46, 133, 148]
abbrev dktX8_copy_3 : List UInt8 := dkwX8_copy_3 ++ dktX8_copy_4
def dkwX8_copy_2 : List UInt8 := [180, 0, 58, 27, 46, 42, 180, 0, 58, 29, 46, 159, 0, 6, 16, 243, 172, 28, 155, 0, 48, 21, 4]
abbrev dktX8_copy_2 : List UInt8 := dkwX8_copy_2 ++ dktX8_copy_3
def dkwX8_copy_1 : List UInt8 := [180, 0, 58, 27, 46, 2, 159, 0, 13, 42, 180, 0, 58, 29, 46, 2, 160, 0, 6, 16, 245, 172, 42]
abbrev dktX8_copy_1 : List UInt8 := dkwX8_copy_1 ++ dktX8_copy_2
def dkwX8_copy_0 : List UInt8 := [27, 3, 6, 184, 0, 102, 153, 0, 12, 29, 3, 6, 184, 0, 102, 154, 0, 6, 16, 254, 172, 42]
abbrev dktX8_copy_0 : List UInt8 := dkwX8_copy_0 ++ dktX8_copy_1
theorem dksX8_copy_0 : cX8_copy.data.toList.drop 0 = dktX8_copy_0 := by decide +kernel
theorem dksX8_copy_1 : cX8_copy.data.toList.drop 22 = dktX8_copy_1 := dk_seg dksX8_copy_0 22 rfl rfl
theorem dksX8_copy_2 : cX8_copy.data.toList.drop 45 = dktX8_copy_2 := dk_seg dksX8_copy_1 23 rfl rfl
theorem dksX8_copy_3 : cX8_copy.data.toList.drop 68 = dktX8_copy_3 := dk_seg dksX8_copy_2 23 rfl rfl
theorem dksX8_copy_4 : cX8_copy.data.toList.drop 90 = dktX8_copy_4 := dk_seg dksX8_copy_3 22 rfl rfl
theorem dksX8_copy_5 : cX8_copy.data.toList.drop 114 = dktX8_copy_5 := dk_seg dksX8_copy_4 24 rfl rfl
theorem dksX8_copy_6 : cX8_copy.data.toList.drop 138 = dktX8_copy_6 := dk_seg dksX8_copy_5 24 rfl rfl
theorem dksX8_copy_7 : cX8_copy.data.toList.drop 162 = dktX8_copy_7 := dk_seg dksX8_copy_6 24 rfl rfl
theorem dksX8_copy_8 : cX8_copy.data.toList.drop 186 = dktX8_copy_8 := dk_seg dksX8_copy_7 24 rfl rfl
theorem dX8_copy_0 : decode cX8_copy 0 = .ok (.iload_n 1, 1) := dk_27 (dk_at dksX8_copy_0 0 rfl rfl)
theorem dX8_copy_1 : decode cX8_copy 1 = .ok (.iconst 0, 1) := dk_3 (dk_at dksX8_copy_0 1 rfl rfl)
theorem dX8_copy_2 : decode cX8_copy 2 = .ok (.iconst 3, 1) := dk_6 (dk_at dksX8_copy_0 2 rfl rfl)
theorem dX8_copy_3 : decode cX8_copy 3 = .ok (.invokestatic 102, 3) := dk_184 0 102 (dk_at dksX8_copy_0 3 rfl rfl)
theorem dX8_copy_6 : decode cX8_copy 6 = .ok (.ifCond .eq 12, 3) := dk_153 0 12 (dk_at dksX8_copy_0 6 rfl rfl)
theorem dX8_copy_9 : decode cX8_copy 9 = .ok (.iload_n 3, 1) := dk_29 (dk_at dksX8_copy_0 9 rfl rfl)
theorem dX8_copy_10 : decode cX8_copy 10 = .ok (.iconst 0, 1) := dk_3 (dk_at dksX8_copy_0 10 rfl rfl)
theorem dX8_copy_11 : decode cX8_copy 11 = .ok (.iconst 3, 1) := dk_6 (dk_at dksX8_copy_0 11 rfl rfl)
theorem dX8_copy_12 : decode cX8_copy 12 = .ok (.invokestatic 102, 3) := dk_184 0 102 (dk_at dksX8_copy_0 12 rfl rfl)
theorem dX8_copy_15 : decode cX8_copy 15 = .ok (.ifCond .ne 6, 3) := dk_154 0 6 (dk_at dksX8_copy_0 15 rfl rfl)
theorem dX8_copy_18 : decode cX8_copy 18 = .ok (.bipush (-2), 2) := dk_16 254 (dk_at dksX8_copy_0 18 rfl rfl)
theorem dX8_copy_20 : decode cX8_copy 20 = .ok (.ireturn, 1) := dk_172 (dk_at dksX8_copy_0 20 rfl rfl)
theorem dX8_copy_21 : decode cX8_copy 21 = .ok (.aload_n 0, 1) := dk_42 (dk_at dksX8_copy_0 21 rfl rfl)
theorem dX8_copy_22 : decode cX8_copy 22 = .ok (.getfield 58, 3) := dk_180 0 58 (dk_at dksX8_copy_1 0 rfl rfl)
theorem dX8_copy_25 : decode cX8_copy 25 = .ok (.iload_n 1, 1) := dk_27 (dk_at dksX8_copy_1 3 rfl rfl)
theorem dX8_copy_26 : decode cX8_copy 26 = .ok (.iaload, 1) := dk_46 (dk_at dksX8_copy_1 4 rfl rfl)
theorem dX8_copy_27 : decode cX8_copy 27 = .ok (.iconst (-1), 1) := dk_2 (dk_at dksX8_copy_1 5 rfl rfl)
theorem dX8_copy_28 : decode cX8_copy 28 = .ok (.if_icmp .eq 13, 3) := dk_159 0 13 (dk_at dksX8_copy_1 6 rfl rfl)
theorem dX8_copy_31 : decode cX8_copy 31 = .ok (.aload_n 0, 1) := dk_42 (dk_at dksX8_copy_1 9 rfl rfl)
theorem dX8_copy_32 : decode cX8_copy 32 = .ok (.getfield 58, 3) := dk_180 0 58 (dk_at dksX8_copy_1 10 rfl rfl)
theorem dX8_copy_35 : decode cX8_copy 35 = .ok (.iload_n 3, 1) := dk_29 (dk_at dksX8_copy_1 13 rfl rfl)
theorem dX8_copy_36 : decode cX8_copy 36 = .ok (.iaload, 1) := dk_46 (dk_at dksX8_copy_1 14 rfl rfl)
theorem dX8_copy_37 : decode cX8_copy 37 = .ok (.iconst (-1), 1) := dk_2 (dk_at dksX8_copy_1 15 rfl rfl)
theorem dX8_copy_38 : decode cX8_copy 38 = .ok (.if_icmp .ne 6, 3) := dk_160 0 6 (dk_at dksX8_copy_1 16 rfl rfl)
theorem dX8_copy_41 : decode cX8_copy 41 = .ok (.bipush (-11), 2) := dk_16 245 (dk_at dksX8_copy_1 19 rfl rfl)
theorem dX8_copy_43 : decode cX8_copy 43 = .ok (.ireturn, 1) := dk_172 (dk_at dksX8_copy_1 21 rfl rfl)
theorem dX8_copy_44 : decode cX8_copy 44 = .ok (.aload_n 0, 1) := dk_42 (dk_at dksX8_copy_1 22 rfl rfl)
theorem dX8_copy_45 : decode cX8_copy 45 = .ok (.getfield 58, 3) := dk_180 0 58 (dk_at dksX8_copy_2 0 rfl rfl)
theorem dX8_copy_48 : decode cX8_copy 48 = .ok (.iload_n 1, 1) := dk_27 (dk_at dksX8_copy_2 3 rfl rfl)
theorem dX8_copy_49 : decode cX8_copy 49 = .ok (.iaload, 1) := dk_46 (dk_at dksX8_copy_2 4 rfl rfl)
theorem dX8_copy_50 : decode cX8_copy 50 = .ok (.aload_n 0, 1) := dk_42 (dk_at dksX8_copy_2 5 rfl rfl)
theorem dX8_copy_51 : decode cX8_copy 51 = .ok (.getfield 58, 3) := dk_180 0 58 (dk_at dksX8_copy_2 6 rfl rfl)
theorem dX8_copy_54 : decode cX8_copy 54 = .ok (.iload_n 3, 1) := dk_29 (dk_at dksX8_copy_2 9 rfl rfl)
theorem dX8_copy_55 : decode cX8_copy 55 = .ok (.iaload, 1) := dk_46 (dk_at dksX8_copy_2 10 rfl rfl)
theorem dX8_copy_56 : decode cX8_copy 56 = .ok (.if_icmp .eq 6, 3) := dk_159 0 6 (dk_at dksX8_copy_2 11 rfl rfl)
theorem dX8_copy_59 : decode cX8_copy 59 = .ok (.bipush (-13), 2) := dk_16 243 (dk_at dksX8_copy_2 14 rfl rfl)
theorem dX8_copy_61 : decode cX8_copy 61 = .ok (.ireturn, 1) := dk_172 (dk_at dksX8_copy_2 16 rfl rfl)
theorem dX8_copy_62 : decode cX8_copy 62 = .ok (.iload_n 2, 1) := dk_28 (dk_at dksX8_copy_2 17 rfl rfl)
theorem dX8_copy_63 : decode cX8_copy 63 = .ok (.ifCond .lt 48, 3) := dk_155 0 48 (dk_at dksX8_copy_2 18 rfl rfl)
theorem dX8_copy_66 : decode cX8_copy 66 = .ok (.iload 4, 2) := dk_21 4 (dk_at dksX8_copy_2 21 rfl rfl)
theorem dX8_copy_68 : decode cX8_copy 68 = .ok (.ifCond .lt 43, 3) := dk_155 0 43 (dk_at dksX8_copy_3 0 rfl rfl)
theorem dX8_copy_71 : decode cX8_copy 71 = .ok (.iload 5, 2) := dk_21 5 (dk_at dksX8_copy_3 3 rfl rfl)
theorem dX8_copy_73 : decode cX8_copy 73 = .ok (.ifCond .lt 38, 3) := dk_155 0 38 (dk_at dksX8_copy_3 5 rfl rfl)
theorem dX8_copy_76 : decode cX8_copy 76 = .ok (.iload_n 2, 1) := dk_28 (dk_at dksX8_copy_3 8 rfl rfl)
theorem dX8_copy_77 : decode cX8_copy 77 = .ok (.i2l, 1) := dk_133 (dk_at dksX8_copy_3 9 rfl rfl)
theorem dX8_copy_78 : decode cX8_copy 78 = .ok (.iload 5, 2) := dk_21 5 (dk_at dksX8_copy_3 10 rfl rfl)
theorem dX8_copy_80 : decode cX8_copy 80 = .ok (.i2l, 1) := dk_133 (dk_at dksX8_copy_3 12 rfl rfl)
theorem dX8_copy_81 : decode cX8_copy 81 = .ok (.ladd, 1) := dk_97 (dk_at dksX8_copy_3 13 rfl rfl)
theorem dX8_copy_82 : decode cX8_copy 82 = .ok (.aload_n 0, 1) := dk_42 (dk_at dksX8_copy_3 14 rfl rfl)
theorem dX8_copy_83 : decode cX8_copy 83 = .ok (.getfield 61, 3) := dk_180 0 61 (dk_at dksX8_copy_3 15 rfl rfl)
theorem dX8_copy_86 : decode cX8_copy 86 = .ok (.iload_n 1, 1) := dk_27 (dk_at dksX8_copy_3 18 rfl rfl)
theorem dX8_copy_87 : decode cX8_copy 87 = .ok (.iaload, 1) := dk_46 (dk_at dksX8_copy_3 19 rfl rfl)
theorem dX8_copy_88 : decode cX8_copy 88 = .ok (.i2l, 1) := dk_133 (dk_at dksX8_copy_3 20 rfl rfl)
theorem dX8_copy_89 : decode cX8_copy 89 = .ok (.lcmp, 1) := dk_148 (dk_at dksX8_copy_3 21 rfl rfl)
theorem dX8_copy_90 : decode cX8_copy 90 = .ok (.ifCond .gt 21, 3) := dk_157 0 21 (dk_at dksX8_copy_4 0 rfl rfl)
theorem dX8_copy_93 : decode cX8_copy 93 = .ok (.iload 4, 2) := dk_21 4 (dk_at dksX8_copy_4 3 rfl rfl)
theorem dX8_copy_95 : decode cX8_copy 95 = .ok (.i2l, 1) := dk_133 (dk_at dksX8_copy_4 5 rfl rfl)
theorem dX8_copy_96 : decode cX8_copy 96 = .ok (.iload 5, 2) := dk_21 5 (dk_at dksX8_copy_4 6 rfl rfl)
theorem dX8_copy_98 : decode cX8_copy 98 = .ok (.i2l, 1) := dk_133 (dk_at dksX8_copy_4 8 rfl rfl)
theorem dX8_copy_99 : decode cX8_copy 99 = .ok (.ladd, 1) := dk_97 (dk_at dksX8_copy_4 9 rfl rfl)
theorem dX8_copy_100 : decode cX8_copy 100 = .ok (.aload_n 0, 1) := dk_42 (dk_at dksX8_copy_4 10 rfl rfl)
theorem dX8_copy_101 : decode cX8_copy 101 = .ok (.getfield 61, 3) := dk_180 0 61 (dk_at dksX8_copy_4 11 rfl rfl)
theorem dX8_copy_104 : decode cX8_copy 104 = .ok (.iload_n 3, 1) := dk_29 (dk_at dksX8_copy_4 14 rfl rfl)
theorem dX8_copy_105 : decode cX8_copy 105 = .ok (.iaload, 1) := dk_46 (dk_at dksX8_copy_4 15 rfl rfl)
theorem dX8_copy_106 : decode cX8_copy 106 = .ok (.i2l, 1) := dk_133 (dk_at dksX8_copy_4 16 rfl rfl)
theorem dX8_copy_107 : decode cX8_copy 107 = .ok (.lcmp, 1) := dk_148 (dk_at dksX8_copy_4 17 rfl rfl)
theorem dX8_copy_108 : decode cX8_copy 108 = .ok (.ifCond .le 6, 3) := dk_158 0 6 (dk_at dksX8_copy_4 18 rfl rfl)
theorem dX8_copy_111 : decode cX8_copy 111 = .ok (.bipush (-12), 2) := dk_16 244 (dk_at dksX8_copy_4 21 rfl rfl)
theorem dX8_copy_113 : decode cX8_copy 113 = .ok (.ireturn, 1) := dk_172 (dk_at dksX8_copy_4 23 rfl rfl)
theorem dX8_copy_114 : decode cX8_copy 114 = .ok (.iconst 0, 1) := dk_3 (dk_at dksX8_copy_5 0 rfl rfl)
theorem dX8_copy_115 : decode cX8_copy 115 = .ok (.istore 6, 2) := dk_54 6 (dk_at dksX8_copy_5 1 rfl rfl)
theorem dX8_copy_117 : decode cX8_copy 117 = .ok (.iload 6, 2) := dk_21 6 (dk_at dksX8_copy_5 3 rfl rfl)
theorem dX8_copy_119 : decode cX8_copy 119 = .ok (.iload 5, 2) := dk_21 5 (dk_at dksX8_copy_5 5 rfl rfl)
theorem dX8_copy_121 : decode cX8_copy 121 = .ok (.if_icmp .ge 30, 3) := dk_162 0 30 (dk_at dksX8_copy_5 7 rfl rfl)
theorem dX8_copy_124 : decode cX8_copy 124 = .ok (.aload_n 0, 1) := dk_42 (dk_at dksX8_copy_5 10 rfl rfl)
theorem dX8_copy_125 : decode cX8_copy 125 = .ok (.getfield 67, 3) := dk_180 0 67 (dk_at dksX8_copy_5 11 rfl rfl)
theorem dX8_copy_128 : decode cX8_copy 128 = .ok (.iload 6, 2) := dk_21 6 (dk_at dksX8_copy_5 14 rfl rfl)
theorem dX8_copy_130 : decode cX8_copy 130 = .ok (.aload_n 0, 1) := dk_42 (dk_at dksX8_copy_5 16 rfl rfl)
theorem dX8_copy_131 : decode cX8_copy 131 = .ok (.getfield 64, 3) := dk_180 0 64 (dk_at dksX8_copy_5 17 rfl rfl)
theorem dX8_copy_134 : decode cX8_copy 134 = .ok (.bipush 40, 2) := dk_16 40 (dk_at dksX8_copy_5 20 rfl rfl)
theorem dX8_copy_136 : decode cX8_copy 136 = .ok (.iload_n 1, 1) := dk_27 (dk_at dksX8_copy_5 22 rfl rfl)
theorem dX8_copy_137 : decode cX8_copy 137 = .ok (.imul, 1) := dk_104 (dk_at dksX8_copy_5 23 rfl rfl)
theorem dX8_copy_138 : decode cX8_copy 138 = .ok (.iload_n 2, 1) := dk_28 (dk_at dksX8_copy_6 0 rfl rfl)
theorem dX8_copy_139 : decode cX8_copy 139 = .ok (.iadd, 1) := dk_96 (dk_at dksX8_copy_6 1 rfl rfl)
theorem dX8_copy_140 : decode cX8_copy 140 = .ok (.iload 6, 2) := dk_21 6 (dk_at dksX8_copy_6 2 rfl rfl)
theorem dX8_copy_142 : decode cX8_copy 142 = .ok (.iadd, 1) := dk_96 (dk_at dksX8_copy_6 4 rfl rfl)
theorem dX8_copy_143 : decode cX8_copy 143 = .ok (.iaload, 1) := dk_46 (dk_at dksX8_copy_6 5 rfl rfl)
theorem dX8_copy_144 : decode cX8_copy 144 = .ok (.iastore, 1) := dk_79 (dk_at dksX8_copy_6 6 rfl rfl)
theorem dX8_copy_145 : decode cX8_copy 145 = .ok (.iinc 6 1, 3) := dk_132 6 1 (dk_at dksX8_copy_6 7 rfl rfl)
theorem dX8_copy_148 : decode cX8_copy 148 = .ok (.goto (-31), 3) := dk_167 255 225 (dk_at dksX8_copy_6 10 rfl rfl)
theorem dX8_copy_151 : decode cX8_copy 151 = .ok (.iconst 0, 1) := dk_3 (dk_at dksX8_copy_6 13 rfl rfl)
theorem dX8_copy_152 : decode cX8_copy 152 = .ok (.istore 6, 2) := dk_54 6 (dk_at dksX8_copy_6 14 rfl rfl)
theorem dX8_copy_154 : decode cX8_copy 154 = .ok (.iload 6, 2) := dk_21 6 (dk_at dksX8_copy_6 16 rfl rfl)
theorem dX8_copy_156 : decode cX8_copy 156 = .ok (.iload 5, 2) := dk_21 5 (dk_at dksX8_copy_6 18 rfl rfl)
theorem dX8_copy_158 : decode cX8_copy 158 = .ok (.if_icmp .ge 31, 3) := dk_162 0 31 (dk_at dksX8_copy_6 20 rfl rfl)
theorem dX8_copy_161 : decode cX8_copy 161 = .ok (.aload_n 0, 1) := dk_42 (dk_at dksX8_copy_6 23 rfl rfl)
theorem dX8_copy_162 : decode cX8_copy 162 = .ok (.getfield 64, 3) := dk_180 0 64 (dk_at dksX8_copy_7 0 rfl rfl)
theorem dX8_copy_165 : decode cX8_copy 165 = .ok (.bipush 40, 2) := dk_16 40 (dk_at dksX8_copy_7 3 rfl rfl)
theorem dX8_copy_167 : decode cX8_copy 167 = .ok (.iload_n 3, 1) := dk_29 (dk_at dksX8_copy_7 5 rfl rfl)
theorem dX8_copy_168 : decode cX8_copy 168 = .ok (.imul, 1) := dk_104 (dk_at dksX8_copy_7 6 rfl rfl)
theorem dX8_copy_169 : decode cX8_copy 169 = .ok (.iload 4, 2) := dk_21 4 (dk_at dksX8_copy_7 7 rfl rfl)
theorem dX8_copy_171 : decode cX8_copy 171 = .ok (.iadd, 1) := dk_96 (dk_at dksX8_copy_7 9 rfl rfl)
theorem dX8_copy_172 : decode cX8_copy 172 = .ok (.iload 6, 2) := dk_21 6 (dk_at dksX8_copy_7 10 rfl rfl)
theorem dX8_copy_174 : decode cX8_copy 174 = .ok (.iadd, 1) := dk_96 (dk_at dksX8_copy_7 12 rfl rfl)
theorem dX8_copy_175 : decode cX8_copy 175 = .ok (.aload_n 0, 1) := dk_42 (dk_at dksX8_copy_7 13 rfl rfl)
theorem dX8_copy_176 : decode cX8_copy 176 = .ok (.getfield 67, 3) := dk_180 0 67 (dk_at dksX8_copy_7 14 rfl rfl)
theorem dX8_copy_179 : decode cX8_copy 179 = .ok (.iload 6, 2) := dk_21 6 (dk_at dksX8_copy_7 17 rfl rfl)
theorem dX8_copy_181 : decode cX8_copy 181 = .ok (.iaload, 1) := dk_46 (dk_at dksX8_copy_7 19 rfl rfl)
theorem dX8_copy_182 : decode cX8_copy 182 = .ok (.iastore, 1) := dk_79 (dk_at dksX8_copy_7 20 rfl rfl)
theorem dX8_copy_183 : decode cX8_copy 183 = .ok (.iinc 6 1, 3) := dk_132 6 1 (dk_at dksX8_copy_7 21 rfl rfl)
theorem dX8_copy_186 : decode cX8_copy 186 = .ok (.goto (-32), 3) := dk_167 255 224 (dk_at dksX8_copy_8 0 rfl rfl)
theorem dX8_copy_189 : decode cX8_copy 189 = .ok (.iload 5, 2) := dk_21 5 (dk_at dksX8_copy_8 3 rfl rfl)
theorem dX8_copy_191 : decode cX8_copy 191 = .ok (.ireturn, 1) := dk_172 (dk_at dksX8_copy_8 5 rfl rfl)
abbrev cX8_boats : ByteArray := prog_16_method_60_code
def yX8_boats : MethodName := ⟨RX8, "boats", "(IIII)I"⟩
def dkwX8_boats_7 : List UInt8 := [21, 5, 172]
abbrev dktX8_boats_7 : List UInt8 := dkwX8_boats_7 ++ []
def dkwX8_boats_6 : List UInt8 := [180, 0, 64, 21, 9, 5, 96, 46, 182, 1, 51, 155, 0, 6, 132, 5, 1, 132, 6, 1, 167, 255, 162]
abbrev dktX8_boats_6 : List UInt8 := dkwX8_boats_6 ++ dktX8_boats_7
def dkwX8_boats_5 : List UInt8 := [136, 96, 54, 9, 42, 42, 180, 0, 64, 21, 9, 46, 42, 180, 0, 64, 21, 9, 4, 96, 46, 42]
abbrev dktX8_boats_5 : List UInt8 := dkwX8_boats_5 ++ dktX8_boats_6
def dkwX8_boats_4 : List UInt8 := [20, 1, 49, 97, 42, 180, 0, 61, 27, 46, 133, 148, 155, 0, 6, 16, 244, 172, 16, 40, 27, 104, 22, 7]
abbrev dktX8_boats_4 : List UInt8 := dkwX8_boats_4 ++ dktX8_boats_5
def dkwX8_boats_3 : List UInt8 := [162, 0, 93, 29, 133, 20, 1, 47, 21, 6, 133, 105, 97, 55, 7, 22, 7, 9, 148, 155, 0, 20, 22, 7]
abbrev dktX8_boats_3 : List UInt8 := dkwX8_boats_3 ++ dktX8_boats_4
def dkwX8_boats_2 : List UInt8 := [180, 0, 58, 27, 46, 28, 159, 0, 6, 16, 243, 172, 3, 54, 5, 3, 54, 6, 21, 6, 21, 4]
abbrev dktX8_boats_2 : List UInt8 := dkwX8_boats_2 ++ dktX8_boats_3
def dkwX8_boats_1 : List UInt8 := [184, 0, 102, 154, 0, 6, 16, 254, 172, 42, 180, 0, 58, 27, 46, 2, 160, 0, 6, 16, 245, 172, 42]
abbrev dktX8_boats_1 : List UInt8 := dkwX8_boats_1 ++ dktX8_boats_2
def dkwX8_boats_0 : List UInt8 := [27, 3, 6, 184, 0, 102, 153, 0, 23, 28, 3, 5, 184, 0, 102, 153, 0, 14, 21, 4, 3, 16, 7]
abbrev dktX8_boats_0 : List UInt8 := dkwX8_boats_0 ++ dktX8_boats_1
theorem dksX8_boats_0 : cX8_boats.data.toList.drop 0 = dktX8_boats_0 := by decide +kernel
theorem dksX8_boats_1 : cX8_boats.data.toList.drop 23 = dktX8_boats_1 := dk_seg dksX8_boats_0 23 rfl rfl
theorem dksX8_boats_2 : cX8_boats.data.toList.drop 46 = dktX8_boats_2 := dk_seg dksX8_boats_1 23 rfl rfl
theorem dksX8_boats_3 : cX8_boats.data.toList.drop 68 = dktX8_boats_3 := dk_seg dksX8_boats_2 22 rfl rfl
theorem dksX8_boats_4 : cX8_boats.data.toList.drop 92 = dktX8_boats_4 := dk_seg dksX8_boats_3 24 rfl rfl
theorem dksX8_boats_5 : cX8_boats.data.toList.drop 116 = dktX8_boats_5 := dk_seg dksX8_boats_4 24 rfl rfl
theorem dksX8_boats_6 : cX8_boats.data.toList.drop 138 = dktX8_boats_6 := dk_seg dksX8_boats_5 22 rfl rfl
theorem dksX8_boats_7 : cX8_boats.data.toList.drop 161 = dktX8_boats_7 := dk_seg dksX8_boats_6 23 rfl rfl
theorem dX8_boats_0 : decode cX8_boats 0 = .ok (.iload_n 1, 1) := dk_27 (dk_at dksX8_boats_0 0 rfl rfl)
theorem dX8_boats_1 : decode cX8_boats 1 = .ok (.iconst 0, 1) := dk_3 (dk_at dksX8_boats_0 1 rfl rfl)
theorem dX8_boats_2 : decode cX8_boats 2 = .ok (.iconst 3, 1) := dk_6 (dk_at dksX8_boats_0 2 rfl rfl)
theorem dX8_boats_3 : decode cX8_boats 3 = .ok (.invokestatic 102, 3) := dk_184 0 102 (dk_at dksX8_boats_0 3 rfl rfl)
theorem dX8_boats_6 : decode cX8_boats 6 = .ok (.ifCond .eq 23, 3) := dk_153 0 23 (dk_at dksX8_boats_0 6 rfl rfl)
theorem dX8_boats_9 : decode cX8_boats 9 = .ok (.iload_n 2, 1) := dk_28 (dk_at dksX8_boats_0 9 rfl rfl)
theorem dX8_boats_10 : decode cX8_boats 10 = .ok (.iconst 0, 1) := dk_3 (dk_at dksX8_boats_0 10 rfl rfl)
theorem dX8_boats_11 : decode cX8_boats 11 = .ok (.iconst 2, 1) := dk_5 (dk_at dksX8_boats_0 11 rfl rfl)
theorem dX8_boats_12 : decode cX8_boats 12 = .ok (.invokestatic 102, 3) := dk_184 0 102 (dk_at dksX8_boats_0 12 rfl rfl)
theorem dX8_boats_15 : decode cX8_boats 15 = .ok (.ifCond .eq 14, 3) := dk_153 0 14 (dk_at dksX8_boats_0 15 rfl rfl)
theorem dX8_boats_18 : decode cX8_boats 18 = .ok (.iload 4, 2) := dk_21 4 (dk_at dksX8_boats_0 18 rfl rfl)
theorem dX8_boats_20 : decode cX8_boats 20 = .ok (.iconst 0, 1) := dk_3 (dk_at dksX8_boats_0 20 rfl rfl)
theorem dX8_boats_21 : decode cX8_boats 21 = .ok (.bipush 7, 2) := dk_16 7 (dk_at dksX8_boats_0 21 rfl rfl)
theorem dX8_boats_23 : decode cX8_boats 23 = .ok (.invokestatic 102, 3) := dk_184 0 102 (dk_at dksX8_boats_1 0 rfl rfl)
theorem dX8_boats_26 : decode cX8_boats 26 = .ok (.ifCond .ne 6, 3) := dk_154 0 6 (dk_at dksX8_boats_1 3 rfl rfl)
theorem dX8_boats_29 : decode cX8_boats 29 = .ok (.bipush (-2), 2) := dk_16 254 (dk_at dksX8_boats_1 6 rfl rfl)
theorem dX8_boats_31 : decode cX8_boats 31 = .ok (.ireturn, 1) := dk_172 (dk_at dksX8_boats_1 8 rfl rfl)
theorem dX8_boats_32 : decode cX8_boats 32 = .ok (.aload_n 0, 1) := dk_42 (dk_at dksX8_boats_1 9 rfl rfl)
theorem dX8_boats_33 : decode cX8_boats 33 = .ok (.getfield 58, 3) := dk_180 0 58 (dk_at dksX8_boats_1 10 rfl rfl)
theorem dX8_boats_36 : decode cX8_boats 36 = .ok (.iload_n 1, 1) := dk_27 (dk_at dksX8_boats_1 13 rfl rfl)
theorem dX8_boats_37 : decode cX8_boats 37 = .ok (.iaload, 1) := dk_46 (dk_at dksX8_boats_1 14 rfl rfl)
theorem dX8_boats_38 : decode cX8_boats 38 = .ok (.iconst (-1), 1) := dk_2 (dk_at dksX8_boats_1 15 rfl rfl)
theorem dX8_boats_39 : decode cX8_boats 39 = .ok (.if_icmp .ne 6, 3) := dk_160 0 6 (dk_at dksX8_boats_1 16 rfl rfl)
theorem dX8_boats_42 : decode cX8_boats 42 = .ok (.bipush (-11), 2) := dk_16 245 (dk_at dksX8_boats_1 19 rfl rfl)
theorem dX8_boats_44 : decode cX8_boats 44 = .ok (.ireturn, 1) := dk_172 (dk_at dksX8_boats_1 21 rfl rfl)
theorem dX8_boats_45 : decode cX8_boats 45 = .ok (.aload_n 0, 1) := dk_42 (dk_at dksX8_boats_1 22 rfl rfl)
theorem dX8_boats_46 : decode cX8_boats 46 = .ok (.getfield 58, 3) := dk_180 0 58 (dk_at dksX8_boats_2 0 rfl rfl)
theorem dX8_boats_49 : decode cX8_boats 49 = .ok (.iload_n 1, 1) := dk_27 (dk_at dksX8_boats_2 3 rfl rfl)
theorem dX8_boats_50 : decode cX8_boats 50 = .ok (.iaload, 1) := dk_46 (dk_at dksX8_boats_2 4 rfl rfl)
theorem dX8_boats_51 : decode cX8_boats 51 = .ok (.iload_n 2, 1) := dk_28 (dk_at dksX8_boats_2 5 rfl rfl)
theorem dX8_boats_52 : decode cX8_boats 52 = .ok (.if_icmp .eq 6, 3) := dk_159 0 6 (dk_at dksX8_boats_2 6 rfl rfl)
theorem dX8_boats_55 : decode cX8_boats 55 = .ok (.bipush (-13), 2) := dk_16 243 (dk_at dksX8_boats_2 9 rfl rfl)
theorem dX8_boats_57 : decode cX8_boats 57 = .ok (.ireturn, 1) := dk_172 (dk_at dksX8_boats_2 11 rfl rfl)
theorem dX8_boats_58 : decode cX8_boats 58 = .ok (.iconst 0, 1) := dk_3 (dk_at dksX8_boats_2 12 rfl rfl)
theorem dX8_boats_59 : decode cX8_boats 59 = .ok (.istore 5, 2) := dk_54 5 (dk_at dksX8_boats_2 13 rfl rfl)
theorem dX8_boats_61 : decode cX8_boats 61 = .ok (.iconst 0, 1) := dk_3 (dk_at dksX8_boats_2 15 rfl rfl)
theorem dX8_boats_62 : decode cX8_boats 62 = .ok (.istore 6, 2) := dk_54 6 (dk_at dksX8_boats_2 16 rfl rfl)
theorem dX8_boats_64 : decode cX8_boats 64 = .ok (.iload 6, 2) := dk_21 6 (dk_at dksX8_boats_2 18 rfl rfl)
theorem dX8_boats_66 : decode cX8_boats 66 = .ok (.iload 4, 2) := dk_21 4 (dk_at dksX8_boats_2 20 rfl rfl)
theorem dX8_boats_68 : decode cX8_boats 68 = .ok (.if_icmp .ge 93, 3) := dk_162 0 93 (dk_at dksX8_boats_3 0 rfl rfl)
theorem dX8_boats_71 : decode cX8_boats 71 = .ok (.iload_n 3, 1) := dk_29 (dk_at dksX8_boats_3 3 rfl rfl)
theorem dX8_boats_72 : decode cX8_boats 72 = .ok (.i2l, 1) := dk_133 (dk_at dksX8_boats_3 4 rfl rfl)
theorem dX8_boats_73 : decode cX8_boats 73 = .ok (.ldc2_w 303, 3) := dk_20 1 47 (dk_at dksX8_boats_3 5 rfl rfl)
theorem dX8_boats_76 : decode cX8_boats 76 = .ok (.iload 6, 2) := dk_21 6 (dk_at dksX8_boats_3 8 rfl rfl)
theorem dX8_boats_78 : decode cX8_boats 78 = .ok (.i2l, 1) := dk_133 (dk_at dksX8_boats_3 10 rfl rfl)
theorem dX8_boats_79 : decode cX8_boats 79 = .ok (.lmul, 1) := dk_105 (dk_at dksX8_boats_3 11 rfl rfl)
theorem dX8_boats_80 : decode cX8_boats 80 = .ok (.ladd, 1) := dk_97 (dk_at dksX8_boats_3 12 rfl rfl)
theorem dX8_boats_81 : decode cX8_boats 81 = .ok (.lstore 7, 2) := dk_55 7 (dk_at dksX8_boats_3 13 rfl rfl)
theorem dX8_boats_83 : decode cX8_boats 83 = .ok (.lload 7, 2) := dk_22 7 (dk_at dksX8_boats_3 15 rfl rfl)
theorem dX8_boats_85 : decode cX8_boats 85 = .ok (.lconst 0, 1) := dk_9 (dk_at dksX8_boats_3 17 rfl rfl)
theorem dX8_boats_86 : decode cX8_boats 86 = .ok (.lcmp, 1) := dk_148 (dk_at dksX8_boats_3 18 rfl rfl)
theorem dX8_boats_87 : decode cX8_boats 87 = .ok (.ifCond .lt 20, 3) := dk_155 0 20 (dk_at dksX8_boats_3 19 rfl rfl)
theorem dX8_boats_90 : decode cX8_boats 90 = .ok (.lload 7, 2) := dk_22 7 (dk_at dksX8_boats_3 22 rfl rfl)
theorem dX8_boats_92 : decode cX8_boats 92 = .ok (.ldc2_w 305, 3) := dk_20 1 49 (dk_at dksX8_boats_4 0 rfl rfl)
theorem dX8_boats_95 : decode cX8_boats 95 = .ok (.ladd, 1) := dk_97 (dk_at dksX8_boats_4 3 rfl rfl)
theorem dX8_boats_96 : decode cX8_boats 96 = .ok (.aload_n 0, 1) := dk_42 (dk_at dksX8_boats_4 4 rfl rfl)
theorem dX8_boats_97 : decode cX8_boats 97 = .ok (.getfield 61, 3) := dk_180 0 61 (dk_at dksX8_boats_4 5 rfl rfl)
theorem dX8_boats_100 : decode cX8_boats 100 = .ok (.iload_n 1, 1) := dk_27 (dk_at dksX8_boats_4 8 rfl rfl)
theorem dX8_boats_101 : decode cX8_boats 101 = .ok (.iaload, 1) := dk_46 (dk_at dksX8_boats_4 9 rfl rfl)
theorem dX8_boats_102 : decode cX8_boats 102 = .ok (.i2l, 1) := dk_133 (dk_at dksX8_boats_4 10 rfl rfl)
theorem dX8_boats_103 : decode cX8_boats 103 = .ok (.lcmp, 1) := dk_148 (dk_at dksX8_boats_4 11 rfl rfl)
theorem dX8_boats_104 : decode cX8_boats 104 = .ok (.ifCond .lt 6, 3) := dk_155 0 6 (dk_at dksX8_boats_4 12 rfl rfl)
theorem dX8_boats_107 : decode cX8_boats 107 = .ok (.bipush (-12), 2) := dk_16 244 (dk_at dksX8_boats_4 15 rfl rfl)
theorem dX8_boats_109 : decode cX8_boats 109 = .ok (.ireturn, 1) := dk_172 (dk_at dksX8_boats_4 17 rfl rfl)
theorem dX8_boats_110 : decode cX8_boats 110 = .ok (.bipush 40, 2) := dk_16 40 (dk_at dksX8_boats_4 18 rfl rfl)
theorem dX8_boats_112 : decode cX8_boats 112 = .ok (.iload_n 1, 1) := dk_27 (dk_at dksX8_boats_4 20 rfl rfl)
theorem dX8_boats_113 : decode cX8_boats 113 = .ok (.imul, 1) := dk_104 (dk_at dksX8_boats_4 21 rfl rfl)
theorem dX8_boats_114 : decode cX8_boats 114 = .ok (.lload 7, 2) := dk_22 7 (dk_at dksX8_boats_4 22 rfl rfl)
theorem dX8_boats_116 : decode cX8_boats 116 = .ok (.l2i, 1) := dk_136 (dk_at dksX8_boats_5 0 rfl rfl)
theorem dX8_boats_117 : decode cX8_boats 117 = .ok (.iadd, 1) := dk_96 (dk_at dksX8_boats_5 1 rfl rfl)
theorem dX8_boats_118 : decode cX8_boats 118 = .ok (.istore 9, 2) := dk_54 9 (dk_at dksX8_boats_5 2 rfl rfl)
theorem dX8_boats_120 : decode cX8_boats 120 = .ok (.aload_n 0, 1) := dk_42 (dk_at dksX8_boats_5 4 rfl rfl)
theorem dX8_boats_121 : decode cX8_boats 121 = .ok (.aload_n 0, 1) := dk_42 (dk_at dksX8_boats_5 5 rfl rfl)
theorem dX8_boats_122 : decode cX8_boats 122 = .ok (.getfield 64, 3) := dk_180 0 64 (dk_at dksX8_boats_5 6 rfl rfl)
theorem dX8_boats_125 : decode cX8_boats 125 = .ok (.iload 9, 2) := dk_21 9 (dk_at dksX8_boats_5 9 rfl rfl)
theorem dX8_boats_127 : decode cX8_boats 127 = .ok (.iaload, 1) := dk_46 (dk_at dksX8_boats_5 11 rfl rfl)
theorem dX8_boats_128 : decode cX8_boats 128 = .ok (.aload_n 0, 1) := dk_42 (dk_at dksX8_boats_5 12 rfl rfl)
theorem dX8_boats_129 : decode cX8_boats 129 = .ok (.getfield 64, 3) := dk_180 0 64 (dk_at dksX8_boats_5 13 rfl rfl)
theorem dX8_boats_132 : decode cX8_boats 132 = .ok (.iload 9, 2) := dk_21 9 (dk_at dksX8_boats_5 16 rfl rfl)
theorem dX8_boats_134 : decode cX8_boats 134 = .ok (.iconst 1, 1) := dk_4 (dk_at dksX8_boats_5 18 rfl rfl)
theorem dX8_boats_135 : decode cX8_boats 135 = .ok (.iadd, 1) := dk_96 (dk_at dksX8_boats_5 19 rfl rfl)
theorem dX8_boats_136 : decode cX8_boats 136 = .ok (.iaload, 1) := dk_46 (dk_at dksX8_boats_5 20 rfl rfl)
theorem dX8_boats_137 : decode cX8_boats 137 = .ok (.aload_n 0, 1) := dk_42 (dk_at dksX8_boats_5 21 rfl rfl)
theorem dX8_boats_138 : decode cX8_boats 138 = .ok (.getfield 64, 3) := dk_180 0 64 (dk_at dksX8_boats_6 0 rfl rfl)
theorem dX8_boats_141 : decode cX8_boats 141 = .ok (.iload 9, 2) := dk_21 9 (dk_at dksX8_boats_6 3 rfl rfl)
theorem dX8_boats_143 : decode cX8_boats 143 = .ok (.iconst 2, 1) := dk_5 (dk_at dksX8_boats_6 5 rfl rfl)
theorem dX8_boats_144 : decode cX8_boats 144 = .ok (.iadd, 1) := dk_96 (dk_at dksX8_boats_6 6 rfl rfl)
theorem dX8_boats_145 : decode cX8_boats 145 = .ok (.iaload, 1) := dk_46 (dk_at dksX8_boats_6 7 rfl rfl)
theorem dX8_boats_146 : decode cX8_boats 146 = .ok (.invokevirtual 307, 3) := dk_182 1 51 (dk_at dksX8_boats_6 8 rfl rfl)
theorem dX8_boats_149 : decode cX8_boats 149 = .ok (.ifCond .lt 6, 3) := dk_155 0 6 (dk_at dksX8_boats_6 11 rfl rfl)
theorem dX8_boats_152 : decode cX8_boats 152 = .ok (.iinc 5 1, 3) := dk_132 5 1 (dk_at dksX8_boats_6 14 rfl rfl)
theorem dX8_boats_155 : decode cX8_boats 155 = .ok (.iinc 6 1, 3) := dk_132 6 1 (dk_at dksX8_boats_6 17 rfl rfl)
theorem dX8_boats_158 : decode cX8_boats 158 = .ok (.goto (-94), 3) := dk_167 255 162 (dk_at dksX8_boats_6 20 rfl rfl)
theorem dX8_boats_161 : decode cX8_boats 161 = .ok (.iload 5, 2) := dk_21 5 (dk_at dksX8_boats_7 0 rfl rfl)
theorem dX8_boats_163 : decode cX8_boats 163 = .ok (.ireturn, 1) := dk_172 (dk_at dksX8_boats_7 2 rfl rfl)
abbrev cX8_taken : ByteArray := prog_16_method_61_code
def yX8_taken : MethodName := ⟨RX8, "taken", "(II)I"⟩
def dkwX8_taken_3 : List UInt8 := [46, 167, 0, 5, 16, 243, 172]
abbrev dktX8_taken_3 : List UInt8 := dkwX8_taken_3 ++ []
def dkwX8_taken_2 : List UInt8 := [29, 7, 160, 0, 7, 5, 167, 0, 4, 3, 62, 167, 255, 227, 29, 28, 160, 0, 12, 42, 180, 0, 13, 27]
abbrev dktX8_taken_2 : List UInt8 := dkwX8_taken_2 ++ dktX8_taken_3
def dkwX8_taken_1 : List UInt8 := [180, 0, 7, 27, 46, 62, 29, 28, 159, 0, 30, 29, 158, 0, 26, 29, 6, 160, 0, 7, 4, 167, 0, 13]
abbrev dktX8_taken_1 : List UInt8 := dkwX8_taken_1 ++ dktX8_taken_2
def dkwX8_taken_0 : List UInt8 := [28, 3, 8, 184, 0, 102, 154, 0, 6, 16, 254, 172, 42, 27, 182, 0, 112, 154, 0, 6, 16, 245, 172, 42]
abbrev dktX8_taken_0 : List UInt8 := dkwX8_taken_0 ++ dktX8_taken_1
theorem dksX8_taken_0 : cX8_taken.data.toList.drop 0 = dktX8_taken_0 := by decide +kernel
theorem dksX8_taken_1 : cX8_taken.data.toList.drop 24 = dktX8_taken_1 := dk_seg dksX8_taken_0 24 rfl rfl
theorem dksX8_taken_2 : cX8_taken.data.toList.drop 48 = dktX8_taken_2 := dk_seg dksX8_taken_1 24 rfl rfl
theorem dksX8_taken_3 : cX8_taken.data.toList.drop 72 = dktX8_taken_3 := dk_seg dksX8_taken_2 24 rfl rfl
theorem dX8_taken_0 : decode cX8_taken 0 = .ok (.iload_n 2, 1) := dk_28 (dk_at dksX8_taken_0 0 rfl rfl)
theorem dX8_taken_1 : decode cX8_taken 1 = .ok (.iconst 0, 1) := dk_3 (dk_at dksX8_taken_0 1 rfl rfl)
theorem dX8_taken_2 : decode cX8_taken 2 = .ok (.iconst 5, 1) := dk_8 (dk_at dksX8_taken_0 2 rfl rfl)
theorem dX8_taken_3 : decode cX8_taken 3 = .ok (.invokestatic 102, 3) := dk_184 0 102 (dk_at dksX8_taken_0 3 rfl rfl)
theorem dX8_taken_6 : decode cX8_taken 6 = .ok (.ifCond .ne 6, 3) := dk_154 0 6 (dk_at dksX8_taken_0 6 rfl rfl)
theorem dX8_taken_9 : decode cX8_taken 9 = .ok (.bipush (-2), 2) := dk_16 254 (dk_at dksX8_taken_0 9 rfl rfl)
theorem dX8_taken_11 : decode cX8_taken 11 = .ok (.ireturn, 1) := dk_172 (dk_at dksX8_taken_0 11 rfl rfl)
theorem dX8_taken_12 : decode cX8_taken 12 = .ok (.aload_n 0, 1) := dk_42 (dk_at dksX8_taken_0 12 rfl rfl)
theorem dX8_taken_13 : decode cX8_taken 13 = .ok (.iload_n 1, 1) := dk_27 (dk_at dksX8_taken_0 13 rfl rfl)
theorem dX8_taken_14 : decode cX8_taken 14 = .ok (.invokevirtual 112, 3) := dk_182 0 112 (dk_at dksX8_taken_0 14 rfl rfl)
theorem dX8_taken_17 : decode cX8_taken 17 = .ok (.ifCond .ne 6, 3) := dk_154 0 6 (dk_at dksX8_taken_0 17 rfl rfl)
theorem dX8_taken_20 : decode cX8_taken 20 = .ok (.bipush (-11), 2) := dk_16 245 (dk_at dksX8_taken_0 20 rfl rfl)
theorem dX8_taken_22 : decode cX8_taken 22 = .ok (.ireturn, 1) := dk_172 (dk_at dksX8_taken_0 22 rfl rfl)
theorem dX8_taken_23 : decode cX8_taken 23 = .ok (.aload_n 0, 1) := dk_42 (dk_at dksX8_taken_0 23 rfl rfl)
theorem dX8_taken_24 : decode cX8_taken 24 = .ok (.getfield 7, 3) := dk_180 0 7 (dk_at dksX8_taken_1 0 rfl rfl)
theorem dX8_taken_27 : decode cX8_taken 27 = .ok (.iload_n 1, 1) := dk_27 (dk_at dksX8_taken_1 3 rfl rfl)
theorem dX8_taken_28 : decode cX8_taken 28 = .ok (.iaload, 1) := dk_46 (dk_at dksX8_taken_1 4 rfl rfl)
theorem dX8_taken_29 : decode cX8_taken 29 = .ok (.istore_n 3, 1) := dk_62 (dk_at dksX8_taken_1 5 rfl rfl)
theorem dX8_taken_30 : decode cX8_taken 30 = .ok (.iload_n 3, 1) := dk_29 (dk_at dksX8_taken_1 6 rfl rfl)
theorem dX8_taken_31 : decode cX8_taken 31 = .ok (.iload_n 2, 1) := dk_28 (dk_at dksX8_taken_1 7 rfl rfl)
theorem dX8_taken_32 : decode cX8_taken 32 = .ok (.if_icmp .eq 30, 3) := dk_159 0 30 (dk_at dksX8_taken_1 8 rfl rfl)
theorem dX8_taken_35 : decode cX8_taken 35 = .ok (.iload_n 3, 1) := dk_29 (dk_at dksX8_taken_1 11 rfl rfl)
theorem dX8_taken_36 : decode cX8_taken 36 = .ok (.ifCond .le 26, 3) := dk_158 0 26 (dk_at dksX8_taken_1 12 rfl rfl)
theorem dX8_taken_39 : decode cX8_taken 39 = .ok (.iload_n 3, 1) := dk_29 (dk_at dksX8_taken_1 15 rfl rfl)
theorem dX8_taken_40 : decode cX8_taken 40 = .ok (.iconst 3, 1) := dk_6 (dk_at dksX8_taken_1 16 rfl rfl)
theorem dX8_taken_41 : decode cX8_taken 41 = .ok (.if_icmp .ne 7, 3) := dk_160 0 7 (dk_at dksX8_taken_1 17 rfl rfl)
theorem dX8_taken_44 : decode cX8_taken 44 = .ok (.iconst 1, 1) := dk_4 (dk_at dksX8_taken_1 20 rfl rfl)
theorem dX8_taken_45 : decode cX8_taken 45 = .ok (.goto 13, 3) := dk_167 0 13 (dk_at dksX8_taken_1 21 rfl rfl)
theorem dX8_taken_48 : decode cX8_taken 48 = .ok (.iload_n 3, 1) := dk_29 (dk_at dksX8_taken_2 0 rfl rfl)
theorem dX8_taken_49 : decode cX8_taken 49 = .ok (.iconst 4, 1) := dk_7 (dk_at dksX8_taken_2 1 rfl rfl)
theorem dX8_taken_50 : decode cX8_taken 50 = .ok (.if_icmp .ne 7, 3) := dk_160 0 7 (dk_at dksX8_taken_2 2 rfl rfl)
theorem dX8_taken_53 : decode cX8_taken 53 = .ok (.iconst 2, 1) := dk_5 (dk_at dksX8_taken_2 5 rfl rfl)
theorem dX8_taken_54 : decode cX8_taken 54 = .ok (.goto 4, 3) := dk_167 0 4 (dk_at dksX8_taken_2 6 rfl rfl)
theorem dX8_taken_57 : decode cX8_taken 57 = .ok (.iconst 0, 1) := dk_3 (dk_at dksX8_taken_2 9 rfl rfl)
theorem dX8_taken_58 : decode cX8_taken 58 = .ok (.istore_n 3, 1) := dk_62 (dk_at dksX8_taken_2 10 rfl rfl)
theorem dX8_taken_59 : decode cX8_taken 59 = .ok (.goto (-29), 3) := dk_167 255 227 (dk_at dksX8_taken_2 11 rfl rfl)
theorem dX8_taken_62 : decode cX8_taken 62 = .ok (.iload_n 3, 1) := dk_29 (dk_at dksX8_taken_2 14 rfl rfl)
theorem dX8_taken_63 : decode cX8_taken 63 = .ok (.iload_n 2, 1) := dk_28 (dk_at dksX8_taken_2 15 rfl rfl)
theorem dX8_taken_64 : decode cX8_taken 64 = .ok (.if_icmp .ne 12, 3) := dk_160 0 12 (dk_at dksX8_taken_2 16 rfl rfl)
theorem dX8_taken_67 : decode cX8_taken 67 = .ok (.aload_n 0, 1) := dk_42 (dk_at dksX8_taken_2 19 rfl rfl)
theorem dX8_taken_68 : decode cX8_taken 68 = .ok (.getfield 13, 3) := dk_180 0 13 (dk_at dksX8_taken_2 20 rfl rfl)
theorem dX8_taken_71 : decode cX8_taken 71 = .ok (.iload_n 1, 1) := dk_27 (dk_at dksX8_taken_2 23 rfl rfl)
theorem dX8_taken_72 : decode cX8_taken 72 = .ok (.iaload, 1) := dk_46 (dk_at dksX8_taken_3 0 rfl rfl)
theorem dX8_taken_73 : decode cX8_taken 73 = .ok (.goto 5, 3) := dk_167 0 5 (dk_at dksX8_taken_3 1 rfl rfl)
theorem dX8_taken_76 : decode cX8_taken 76 = .ok (.bipush (-13), 2) := dk_16 243 (dk_at dksX8_taken_3 4 rfl rfl)
theorem dX8_taken_78 : decode cX8_taken 78 = .ok (.ireturn, 1) := dk_172 (dk_at dksX8_taken_3 6 rfl rfl)
theorem q87 : (Jvm.Cond.initialized "BoatsCalledInModel") ∈ lw_all := lw_g (lw_at lw_m1 18 rfl) rfl
theorem q1155 : (Jvm.Cond.instantiable "BoatsCalledInModel" (40 : Nat)) ∈ lw_all := lw_g (lw_at lw_m5 126 rfl) rfl
theorem q1157 : (Jvm.Cond.instanceMethod ({ cls := "BoatsCalledInModel", name := "<init>", desc := "()V" } : Jvm.MethodName)) ∈ lw_all := lw_g (lw_at lw_m5 128 rfl) rfl
theorem q1158 : (Jvm.Cond.code ({ cls := "BoatsCalledInModel", name := "<init>", desc := "()V" } : Jvm.MethodName) prog_16_method_1_code (3 : Nat) (Option.none : Option Jvm.ClassFile.FieldType)) ∈ lw_all := lw_g (lw_at lw_m5 129 rfl) rfl
theorem q1159 : (Jvm.Cond.methodLink "BoatsCalledInModel" (1 : Nat) ({ cls := "java/lang/Object", name := "<init>", desc := "()V" } : Jvm.MethodName)) ∈ lw_all := lw_g (lw_at lw_m5 130 rfl) rfl
theorem q1160 : (Jvm.Cond.stringRef "BoatsCalledInModel" (80 : Nat) "price 4 ; hears not hid ; comes 0 - 5 < late ;") ∈ lw_tbl := lw_at lw_m5 131 rfl
theorem q1161 : (Jvm.Cond.methodLink "BoatsCalledInModel" (82 : Nat) ({ cls := "java/lang/String", name := "length", desc := "()I" } : Jvm.MethodName)) ∈ lw_all := lw_g (lw_at lw_m5 132 rfl) rfl
theorem q1162 : (Jvm.Cond.methodLink "BoatsCalledInModel" (88 : Nat) ({ cls := "java/lang/String", name := "charAt", desc := "(I)C" } : Jvm.MethodName)) ∈ lw_all := lw_g (lw_at lw_m5 133 rfl) rfl
theorem q1163 : (Jvm.Cond.methodLink "BoatsCalledInModel" (92 : Nat) ({ cls := "BoatsCalledInModel", name := "feed", desc := "(I)I" } : Jvm.MethodName)) ∈ lw_all := lw_g (lw_at lw_m5 134 rfl) rfl
theorem q1164 : (Jvm.Cond.instanceMethod ({ cls := "BoatsCalledInModel", name := "feed", desc := "(I)I" } : Jvm.MethodName)) ∈ lw_all := lw_g (lw_at lw_m5 135 rfl) rfl
theorem q1165 : (Jvm.Cond.selects "BoatsCalledInModel" ({ cls := "BoatsCalledInModel", name := "feed", desc := "(I)I" } : Jvm.MethodName) ({ cls := "BoatsCalledInModel", name := "feed", desc := "(I)I" } : Jvm.MethodName)) ∈ lw_all := lw_g (lw_at lw_m5 136 rfl) rfl
theorem q1166 : (Jvm.Cond.code ({ cls := "BoatsCalledInModel", name := "feed", desc := "(I)I" } : Jvm.MethodName) prog_16_method_15_code (2 : Nat) (Option.some Jvm.ClassFile.FieldType.int)) ∈ lw_all := lw_g (lw_at lw_m5 137 rfl) rfl
theorem q1167 : (Jvm.Cond.methodLink "BoatsCalledInModel" (102 : Nat) ({ cls := "BoatsCalledInModel", name := "within", desc := "(III)Z" } : Jvm.MethodName)) ∈ lw_all := lw_g (lw_at lw_m5 138 rfl) rfl
theorem q1168 : (Jvm.Cond.static ({ cls := "BoatsCalledInModel", name := "within", desc := "(III)Z" } : Jvm.MethodName)) ∈ lw_all := lw_g (lw_at lw_m5 139 rfl) rfl
theorem q1169 : (Jvm.Cond.code ({ cls := "BoatsCalledInModel", name := "within", desc := "(III)Z" } : Jvm.MethodName) prog_16_method_2_code (3 : Nat) (Option.some Jvm.ClassFile.FieldType.boolean)) ∈ lw_all := lw_g (lw_at lw_m5 140 rfl) rfl
theorem q1170 : (Jvm.Cond.methodLink "BoatsCalledInModel" (96 : Nat) ({ cls := "BoatsCalledInModel", name := "text", desc := "()I" } : Jvm.MethodName)) ∈ lw_all := lw_g (lw_at lw_m5 141 rfl) rfl
theorem q1171 : (Jvm.Cond.instanceMethod ({ cls := "BoatsCalledInModel", name := "text", desc := "()I" } : Jvm.MethodName)) ∈ lw_all := lw_g (lw_at lw_m5 142 rfl) rfl
theorem q1172 : (Jvm.Cond.selects "BoatsCalledInModel" ({ cls := "BoatsCalledInModel", name := "text", desc := "()I" } : Jvm.MethodName) ({ cls := "BoatsCalledInModel", name := "text", desc := "()I" } : Jvm.MethodName)) ∈ lw_all := lw_g (lw_at lw_m5 143 rfl) rfl
theorem q1173 : (Jvm.Cond.code ({ cls := "BoatsCalledInModel", name := "text", desc := "()I" } : Jvm.MethodName) prog_16_method_30_code (2 : Nat) (Option.some Jvm.ClassFile.FieldType.int)) ∈ lw_all := lw_g (lw_at lw_m5 144 rfl) rfl
theorem q1174 : (Jvm.Cond.methodLink "BoatsCalledInModel" (202 : Nat) ({ cls := "BoatsCalledInModel", name := "next", desc := "()V" } : Jvm.MethodName)) ∈ lw_all := lw_g (lw_at lw_m5 145 rfl) rfl
theorem q1175 : (Jvm.Cond.privateMethod ({ cls := "BoatsCalledInModel", name := "next", desc := "()V" } : Jvm.MethodName)) ∈ lw_tbl := lw_at lw_m5 146 rfl
theorem q1176 : (Jvm.Cond.instanceMethod ({ cls := "BoatsCalledInModel", name := "next", desc := "()V" } : Jvm.MethodName)) ∈ lw_all := lw_g (lw_at lw_m5 147 rfl) rfl
theorem q1177 : (Jvm.Cond.code ({ cls := "BoatsCalledInModel", name := "next", desc := "()V" } : Jvm.MethodName) prog_16_method_16_code (2 : Nat) (Option.none : Option Jvm.ClassFile.FieldType)) ∈ lw_all := lw_g (lw_at lw_m5 148 rfl) rfl
theorem q1178 : (Jvm.Cond.methodLink "BoatsCalledInModel" (168 : Nat) ({ cls := "BoatsCalledInModel", name := "isDigit", desc := "(I)Z" } : Jvm.MethodName)) ∈ lw_all := lw_g (lw_at lw_m5 149 rfl) rfl
theorem q1179 : (Jvm.Cond.static ({ cls := "BoatsCalledInModel", name := "isDigit", desc := "(I)Z" } : Jvm.MethodName)) ∈ lw_all := lw_g (lw_at lw_m5 150 rfl) rfl
theorem q1180 : (Jvm.Cond.code ({ cls := "BoatsCalledInModel", name := "isDigit", desc := "(I)Z" } : Jvm.MethodName) prog_16_method_17_code (1 : Nat) (Option.some Jvm.ClassFile.FieldType.boolean)) ∈ lw_all := lw_g (lw_at lw_m5 151 rfl) rfl
theorem q1181 : (Jvm.Cond.methodLink "BoatsCalledInModel" (174 : Nat) ({ cls := "BoatsCalledInModel", name := "isLetter", desc := "(I)Z" } : Jvm.MethodName)) ∈ lw_all := lw_g (lw_at lw_m5 152 rfl) rfl
theorem q1182 : (Jvm.Cond.static ({ cls := "BoatsCalledInModel", name := "isLetter", desc := "(I)Z" } : Jvm.MethodName)) ∈ lw_all := lw_g (lw_at lw_m5 153 rfl) rfl
theorem q1183 : (Jvm.Cond.code ({ cls := "BoatsCalledInModel", name := "isLetter", desc := "(I)Z" } : Jvm.MethodName) prog_16_method_18_code (1 : Nat) (Option.some Jvm.ClassFile.FieldType.boolean)) ∈ lw_all := lw_g (lw_at lw_m5 154 rfl) rfl
theorem q1184 : (Jvm.Cond.stringRef "BoatsCalledInModel" (236 : Nat) "price") ∈ lw_tbl := lw_at lw_m5 155 rfl
theorem q1185 : (Jvm.Cond.methodLink "BoatsCalledInModel" (238 : Nat) ({ cls := "BoatsCalledInModel", name := "part", desc := "(Ljava/lang/String;I)Z" } : Jvm.MethodName)) ∈ lw_all := lw_g (lw_at lw_m5 156 rfl) rfl
theorem q1186 : (Jvm.Cond.privateMethod ({ cls := "BoatsCalledInModel", name := "part", desc := "(Ljava/lang/String;I)Z" } : Jvm.MethodName)) ∈ lw_tbl := lw_at lw_m5 157 rfl
theorem q1187 : (Jvm.Cond.instanceMethod ({ cls := "BoatsCalledInModel", name := "part", desc := "(Ljava/lang/String;I)Z" } : Jvm.MethodName)) ∈ lw_all := lw_g (lw_at lw_m5 158 rfl) rfl
theorem q1188 : (Jvm.Cond.code ({ cls := "BoatsCalledInModel", name := "part", desc := "(Ljava/lang/String;I)Z" } : Jvm.MethodName) prog_16_method_29_code (3 : Nat) (Option.some Jvm.ClassFile.FieldType.boolean)) ∈ lw_all := lw_g (lw_at lw_m5 159 rfl) rfl
theorem q1189 : (Jvm.Cond.methodLink "BoatsCalledInModel" (178 : Nat) ({ cls := "BoatsCalledInModel", name := "is", desc := "(Ljava/lang/String;)Z" } : Jvm.MethodName)) ∈ lw_all := lw_g (lw_at lw_m5 160 rfl) rfl
theorem q1190 : (Jvm.Cond.privateMethod ({ cls := "BoatsCalledInModel", name := "is", desc := "(Ljava/lang/String;)Z" } : Jvm.MethodName)) ∈ lw_tbl := lw_at lw_m5 161 rfl
theorem q1191 : (Jvm.Cond.instanceMethod ({ cls := "BoatsCalledInModel", name := "is", desc := "(Ljava/lang/String;)Z" } : Jvm.MethodName)) ∈ lw_all := lw_g (lw_at lw_m5 162 rfl) rfl
theorem q1192 : (Jvm.Cond.code ({ cls := "BoatsCalledInModel", name := "is", desc := "(Ljava/lang/String;)Z" } : Jvm.MethodName) prog_16_method_19_code (3 : Nat) (Option.some Jvm.ClassFile.FieldType.boolean)) ∈ lw_all := lw_g (lw_at lw_m5 163 rfl) rfl
theorem q1193 : (Jvm.Cond.methodLink "BoatsCalledInModel" (233 : Nat) ({ cls := "BoatsCalledInModel", name := "any", desc := "()Z" } : Jvm.MethodName)) ∈ lw_all := lw_g (lw_at lw_m5 164 rfl) rfl
theorem q1194 : (Jvm.Cond.privateMethod ({ cls := "BoatsCalledInModel", name := "any", desc := "()Z" } : Jvm.MethodName)) ∈ lw_tbl := lw_at lw_m5 165 rfl
theorem q1195 : (Jvm.Cond.instanceMethod ({ cls := "BoatsCalledInModel", name := "any", desc := "()Z" } : Jvm.MethodName)) ∈ lw_all := lw_g (lw_at lw_m5 166 rfl) rfl
theorem q1196 : (Jvm.Cond.code ({ cls := "BoatsCalledInModel", name := "any", desc := "()Z" } : Jvm.MethodName) prog_16_method_23_code (1 : Nat) (Option.some Jvm.ClassFile.FieldType.boolean)) ∈ lw_all := lw_g (lw_at lw_m5 167 rfl) rfl
theorem q1197 : (Jvm.Cond.methodLink "BoatsCalledInModel" (196 : Nat) ({ cls := "BoatsCalledInModel", name := "both", desc := "()Z" } : Jvm.MethodName)) ∈ lw_all := lw_g (lw_at lw_m5 168 rfl) rfl
theorem q1198 : (Jvm.Cond.privateMethod ({ cls := "BoatsCalledInModel", name := "both", desc := "()Z" } : Jvm.MethodName)) ∈ lw_tbl := lw_at lw_m5 169 rfl
theorem q1199 : (Jvm.Cond.instanceMethod ({ cls := "BoatsCalledInModel", name := "both", desc := "()Z" } : Jvm.MethodName)) ∈ lw_all := lw_g (lw_at lw_m5 170 rfl) rfl
theorem q1200 : (Jvm.Cond.code ({ cls := "BoatsCalledInModel", name := "both", desc := "()Z" } : Jvm.MethodName) prog_16_method_24_code (1 : Nat) (Option.some Jvm.ClassFile.FieldType.boolean)) ∈ lw_all := lw_g (lw_at lw_m5 171 rfl) rfl
theorem q1201 : (Jvm.Cond.methodLink "BoatsCalledInModel" (209 : Nat) ({ cls := "BoatsCalledInModel", name := "not", desc := "()Z" } : Jvm.MethodName)) ∈ lw_all := lw_g (lw_at lw_m5 172 rfl) rfl
theorem q1202 : (Jvm.Cond.privateMethod ({ cls := "BoatsCalledInModel", name := "not", desc := "()Z" } : Jvm.MethodName)) ∈ lw_tbl := lw_at lw_m5 173 rfl
theorem q1203 : (Jvm.Cond.instanceMethod ({ cls := "BoatsCalledInModel", name := "not", desc := "()Z" } : Jvm.MethodName)) ∈ lw_all := lw_g (lw_at lw_m5 174 rfl) rfl
theorem q1204 : (Jvm.Cond.code ({ cls := "BoatsCalledInModel", name := "not", desc := "()Z" } : Jvm.MethodName) prog_16_method_25_code (2 : Nat) (Option.some Jvm.ClassFile.FieldType.boolean)) ∈ lw_all := lw_g (lw_at lw_m5 175 rfl) rfl
theorem q1205 : (Jvm.Cond.stringRef "BoatsCalledInModel" (214 : Nat) "not") ∈ lw_tbl := lw_at lw_m5 176 rfl
theorem q1206 : (Jvm.Cond.methodLink "BoatsCalledInModel" (205 : Nat) ({ cls := "BoatsCalledInModel", name := "put", desc := "(I)V" } : Jvm.MethodName)) ∈ lw_all := lw_g (lw_at lw_m5 177 rfl) rfl
theorem q1207 : (Jvm.Cond.privateMethod ({ cls := "BoatsCalledInModel", name := "put", desc := "(I)V" } : Jvm.MethodName)) ∈ lw_tbl := lw_at lw_m5 178 rfl
theorem q1208 : (Jvm.Cond.instanceMethod ({ cls := "BoatsCalledInModel", name := "put", desc := "(I)V" } : Jvm.MethodName)) ∈ lw_all := lw_g (lw_at lw_m5 179 rfl) rfl
theorem q1209 : (Jvm.Cond.code ({ cls := "BoatsCalledInModel", name := "put", desc := "(I)V" } : Jvm.MethodName) prog_16_method_22_code (2 : Nat) (Option.none : Option Jvm.ClassFile.FieldType)) ∈ lw_all := lw_g (lw_at lw_m5 180 rfl) rfl
theorem q1210 : (Jvm.Cond.methodLink "BoatsCalledInModel" (218 : Nat) ({ cls := "BoatsCalledInModel", name := "sum", desc := "()Z" } : Jvm.MethodName)) ∈ lw_all := lw_g (lw_at lw_m5 181 rfl) rfl
theorem q1211 : (Jvm.Cond.privateMethod ({ cls := "BoatsCalledInModel", name := "sum", desc := "()Z" } : Jvm.MethodName)) ∈ lw_tbl := lw_at lw_m5 182 rfl
theorem q1212 : (Jvm.Cond.instanceMethod ({ cls := "BoatsCalledInModel", name := "sum", desc := "()Z" } : Jvm.MethodName)) ∈ lw_all := lw_g (lw_at lw_m5 183 rfl) rfl
theorem q1213 : (Jvm.Cond.code ({ cls := "BoatsCalledInModel", name := "sum", desc := "()Z" } : Jvm.MethodName) prog_16_method_26_code (2 : Nat) (Option.some Jvm.ClassFile.FieldType.boolean)) ∈ lw_all := lw_g (lw_at lw_m5 184 rfl) rfl
theorem q1214 : (Jvm.Cond.methodLink "BoatsCalledInModel" (224 : Nat) ({ cls := "BoatsCalledInModel", name := "term", desc := "()Z" } : Jvm.MethodName)) ∈ lw_all := lw_g (lw_at lw_m5 185 rfl) rfl
theorem q1215 : (Jvm.Cond.privateMethod ({ cls := "BoatsCalledInModel", name := "term", desc := "()Z" } : Jvm.MethodName)) ∈ lw_tbl := lw_at lw_m5 186 rfl
theorem q1216 : (Jvm.Cond.instanceMethod ({ cls := "BoatsCalledInModel", name := "term", desc := "()Z" } : Jvm.MethodName)) ∈ lw_all := lw_g (lw_at lw_m5 187 rfl) rfl
theorem q1217 : (Jvm.Cond.code ({ cls := "BoatsCalledInModel", name := "term", desc := "()Z" } : Jvm.MethodName) prog_16_method_27_code (1 : Nat) (Option.some Jvm.ClassFile.FieldType.boolean)) ∈ lw_all := lw_g (lw_at lw_m5 188 rfl) rfl
theorem q1218 : (Jvm.Cond.methodLink "BoatsCalledInModel" (227 : Nat) ({ cls := "BoatsCalledInModel", name := "one", desc := "()Z" } : Jvm.MethodName)) ∈ lw_all := lw_g (lw_at lw_m5 189 rfl) rfl
theorem q1219 : (Jvm.Cond.privateMethod ({ cls := "BoatsCalledInModel", name := "one", desc := "()Z" } : Jvm.MethodName)) ∈ lw_tbl := lw_at lw_m5 190 rfl
theorem q1220 : (Jvm.Cond.instanceMethod ({ cls := "BoatsCalledInModel", name := "one", desc := "()Z" } : Jvm.MethodName)) ∈ lw_all := lw_g (lw_at lw_m5 191 rfl) rfl
theorem q1221 : (Jvm.Cond.code ({ cls := "BoatsCalledInModel", name := "one", desc := "()Z" } : Jvm.MethodName) prog_16_method_28_code (2 : Nat) (Option.some Jvm.ClassFile.FieldType.boolean)) ∈ lw_all := lw_g (lw_at lw_m5 192 rfl) rfl
theorem q1222 : (Jvm.Cond.methodLink "BoatsCalledInModel" (230 : Nat) ({ cls := "BoatsCalledInModel", name := "name", desc := "()I" } : Jvm.MethodName)) ∈ lw_all := lw_g (lw_at lw_m5 193 rfl) rfl
theorem q1223 : (Jvm.Cond.privateMethod ({ cls := "BoatsCalledInModel", name := "name", desc := "()I" } : Jvm.MethodName)) ∈ lw_tbl := lw_at lw_m5 194 rfl
theorem q1224 : (Jvm.Cond.instanceMethod ({ cls := "BoatsCalledInModel", name := "name", desc := "()I" } : Jvm.MethodName)) ∈ lw_all := lw_g (lw_at lw_m5 195 rfl) rfl
theorem q1225 : (Jvm.Cond.code ({ cls := "BoatsCalledInModel", name := "name", desc := "()I" } : Jvm.MethodName) prog_16_method_21_code (1 : Nat) (Option.some Jvm.ClassFile.FieldType.int)) ∈ lw_all := lw_g (lw_at lw_m5 196 rfl) rfl
theorem q1226 : (Jvm.Cond.stringRef "BoatsCalledInModel" (177 : Nat) "far") ∈ lw_tbl := lw_at lw_m5 197 rfl
theorem q1227 : (Jvm.Cond.stringRef "BoatsCalledInModel" (182 : Nat) "wind") ∈ lw_tbl := lw_at lw_m5 198 rfl
theorem q1228 : (Jvm.Cond.stringRef "BoatsCalledInModel" (183 : Nat) "late") ∈ lw_tbl := lw_at lw_m5 199 rfl
theorem q1229 : (Jvm.Cond.stringRef "BoatsCalledInModel" (185 : Nat) "hid") ∈ lw_tbl := lw_at lw_m5 200 rfl
theorem q1230 : (Jvm.Cond.stringRef "BoatsCalledInModel" (187 : Nat) "boat") ∈ lw_tbl := lw_at lw_m5 201 rfl
theorem q1231 : (Jvm.Cond.stringRef "BoatsCalledInModel" (189 : Nat) "minute") ∈ lw_tbl := lw_at lw_m5 202 rfl
theorem q1232 : (Jvm.Cond.methodLink "BoatsCalledInModel" (221 : Nat) ({ cls := "BoatsCalledInModel", name := "is", desc := "(C)Z" } : Jvm.MethodName)) ∈ lw_all := lw_g (lw_at lw_m5 203 rfl) rfl
theorem q1233 : (Jvm.Cond.privateMethod ({ cls := "BoatsCalledInModel", name := "is", desc := "(C)Z" } : Jvm.MethodName)) ∈ lw_tbl := lw_at lw_m5 204 rfl
theorem q1234 : (Jvm.Cond.instanceMethod ({ cls := "BoatsCalledInModel", name := "is", desc := "(C)Z" } : Jvm.MethodName)) ∈ lw_all := lw_g (lw_at lw_m5 205 rfl) rfl
theorem q1235 : (Jvm.Cond.code ({ cls := "BoatsCalledInModel", name := "is", desc := "(C)Z" } : Jvm.MethodName) prog_16_method_20_code (2 : Nat) (Option.some Jvm.ClassFile.FieldType.boolean)) ∈ lw_all := lw_g (lw_at lw_m5 206 rfl) rfl
theorem q1236 : (Jvm.Cond.stringRef "BoatsCalledInModel" (212 : Nat) "and") ∈ lw_tbl := lw_at lw_m5 207 rfl
theorem q1237 : (Jvm.Cond.stringRef "BoatsCalledInModel" (200 : Nat) "or") ∈ lw_tbl := lw_at lw_m5 208 rfl
theorem q1238 : (Jvm.Cond.stringRef "BoatsCalledInModel" (242 : Nat) "hears") ∈ lw_tbl := lw_at lw_m5 209 rfl
theorem q1239 : (Jvm.Cond.stringRef "BoatsCalledInModel" (244 : Nat) "comes") ∈ lw_tbl := lw_at lw_m5 210 rfl
theorem q1240 : (Jvm.Cond.fieldLink "BoatsCalledInModel" (99 : Nat) "BoatsCalledInModel" "boats" "I") ∈ lw_all := lw_g (lw_at lw_m5 211 rfl) rfl
theorem q1241 : (Jvm.Cond.fieldLink "BoatsCalledInModel" (7 : Nat) "BoatsCalledInModel" "kind" "[I") ∈ lw_all := lw_g (lw_at lw_m5 212 rfl) rfl
theorem q1242 : (Jvm.Cond.fieldLink "BoatsCalledInModel" (13 : Nat) "BoatsCalledInModel" "number" "[I") ∈ lw_all := lw_g (lw_at lw_m5 213 rfl) rfl
theorem q1243 : (Jvm.Cond.fieldLink "BoatsCalledInModel" (16 : Nat) "BoatsCalledInModel" "cell" "[I") ∈ lw_all := lw_g (lw_at lw_m5 214 rfl) rfl
theorem q1244 : (Jvm.Cond.fieldLink "BoatsCalledInModel" (19 : Nat) "BoatsCalledInModel" "out" "[I") ∈ lw_all := lw_g (lw_at lw_m5 215 rfl) rfl
theorem q1245 : (Jvm.Cond.fieldLink "BoatsCalledInModel" (22 : Nat) "BoatsCalledInModel" "paid" "[I") ∈ lw_all := lw_g (lw_at lw_m5 216 rfl) rfl
theorem q1246 : (Jvm.Cond.fieldLink "BoatsCalledInModel" (25 : Nat) "BoatsCalledInModel" "how" "[I") ∈ lw_all := lw_g (lw_at lw_m5 217 rfl) rfl
theorem q1247 : (Jvm.Cond.fieldLink "BoatsCalledInModel" (28 : Nat) "BoatsCalledInModel" "when" "[I") ∈ lw_all := lw_g (lw_at lw_m5 218 rfl) rfl
theorem q1248 : (Jvm.Cond.fieldLink "BoatsCalledInModel" (70 : Nat) "BoatsCalledInModel" "island" "I") ∈ lw_all := lw_g (lw_at lw_m5 219 rfl) rfl
theorem q1249 : (Jvm.Cond.fieldLink "BoatsCalledInModel" (116 : Nat) "BoatsCalledInModel" "wind" "I") ∈ lw_all := lw_g (lw_at lw_m5 220 rfl) rfl
theorem q1250 : (Jvm.Cond.fieldLink "BoatsCalledInModel" (142 : Nat) "BoatsCalledInModel" "minute" "I") ∈ lw_all := lw_g (lw_at lw_m5 221 rfl) rfl
theorem q1251 : (Jvm.Cond.fieldLink "BoatsCalledInModel" (74 : Nat) "BoatsCalledInModel" "tows" "I") ∈ lw_all := lw_g (lw_at lw_m5 222 rfl) rfl
theorem q1252 : (Jvm.Cond.fieldLink "BoatsCalledInModel" (77 : Nat) "BoatsCalledInModel" "speed" "I") ∈ lw_all := lw_g (lw_at lw_m5 223 rfl) rfl
theorem q1253 : (Jvm.Cond.fieldLink "BoatsCalledInModel" (119 : Nat) "BoatsCalledInModel" "waiting" "I") ∈ lw_all := lw_g (lw_at lw_m5 224 rfl) rfl
theorem q1254 : (Jvm.Cond.fieldLink "BoatsCalledInModel" (249 : Nat) "BoatsCalledInModel" "takings" "I") ∈ lw_all := lw_g (lw_at lw_m5 225 rfl) rfl
theorem q1255 : (Jvm.Cond.fieldLink "BoatsCalledInModel" (156 : Nat) "BoatsCalledInModel" "taped" "I") ∈ lw_all := lw_g (lw_at lw_m5 226 rfl) rfl
theorem q1256 : (Jvm.Cond.fieldLink "BoatsCalledInModel" (31 : Nat) "BoatsCalledInModel" "tape" "[I") ∈ lw_all := lw_g (lw_at lw_m5 227 rfl) rfl
theorem q1257 : (Jvm.Cond.fieldLink "BoatsCalledInModel" (190 : Nat) "BoatsCalledInModel" "texts" "I") ∈ lw_all := lw_g (lw_at lw_m5 228 rfl) rfl
theorem q1258 : (Jvm.Cond.fieldLink "BoatsCalledInModel" (129 : Nat) "BoatsCalledInModel" "rule" "I") ∈ lw_all := lw_g (lw_at lw_m5 229 rfl) rfl
theorem q1259 : (Jvm.Cond.fieldLink "BoatsCalledInModel" (34 : Nat) "BoatsCalledInModel" "code" "[I") ∈ lw_all := lw_g (lw_at lw_m5 230 rfl) rfl
theorem q1260 : (Jvm.Cond.fieldLink "BoatsCalledInModel" (37 : Nat) "BoatsCalledInModel" "begins" "[I") ∈ lw_all := lw_g (lw_at lw_m5 231 rfl) rfl
theorem q1261 : (Jvm.Cond.fieldLink "BoatsCalledInModel" (193 : Nat) "BoatsCalledInModel" "made" "I") ∈ lw_all := lw_g (lw_at lw_m5 232 rfl) rfl
theorem q1262 : (Jvm.Cond.fieldLink "BoatsCalledInModel" (159 : Nat) "BoatsCalledInModel" "at" "I") ∈ lw_all := lw_g (lw_at lw_m5 233 rfl) rfl
theorem q1263 : (Jvm.Cond.fieldLink "BoatsCalledInModel" (162 : Nat) "BoatsCalledInModel" "from" "I") ∈ lw_all := lw_g (lw_at lw_m5 234 rfl) rfl
theorem q1264 : (Jvm.Cond.fieldLink "BoatsCalledInModel" (165 : Nat) "BoatsCalledInModel" "sort" "I") ∈ lw_all := lw_g (lw_at lw_m5 235 rfl) rfl
theorem q1265 : (Jvm.Cond.fieldLink "BoatsCalledInModel" (171 : Nat) "BoatsCalledInModel" "value" "I") ∈ lw_all := lw_g (lw_at lw_m5 236 rfl) rfl
theorem q1266 : (Jvm.Cond.fieldLink "BoatsCalledInModel" (215 : Nat) "BoatsCalledInModel" "open" "I") ∈ lw_all := lw_g (lw_at lw_m5 237 rfl) rfl
theorem q1267 : (Jvm.Cond.fieldLink "BoatsCalledInModel" (40 : Nat) "BoatsCalledInModel" "stack" "[I") ∈ lw_all := lw_g (lw_at lw_m5 238 rfl) rfl
theorem q1268 : (Jvm.Cond.fieldLink "BoatsCalledInModel" (43 : Nat) "BoatsCalledInModel" "names" "[I") ∈ lw_all := lw_g (lw_at lw_m5 239 rfl) rfl
theorem q1269 : (Jvm.Cond.fieldLink "BoatsCalledInModel" (262 : Nat) "BoatsCalledInModel" "fewest" "I") ∈ lw_all := lw_g (lw_at lw_m6 0 rfl) rfl
theorem q1270 : (Jvm.Cond.fieldLink "BoatsCalledInModel" (46 : Nat) "BoatsCalledInModel" "order" "[I") ∈ lw_all := lw_g (lw_at lw_m6 1 rfl) rfl
theorem q1271 : (Jvm.Cond.fieldLink "BoatsCalledInModel" (49 : Nat) "BoatsCalledInModel" "first" "[I") ∈ lw_all := lw_g (lw_at lw_m6 2 rfl) rfl
theorem q1272 : (Jvm.Cond.fieldLink "BoatsCalledInModel" (52 : Nat) "BoatsCalledInModel" "minutes" "[I") ∈ lw_all := lw_g (lw_at lw_m6 3 rfl) rfl
theorem q1273 : (Jvm.Cond.fieldLink "BoatsCalledInModel" (293 : Nat) "BoatsCalledInModel" "imaged" "Z") ∈ lw_all := lw_g (lw_at lw_m6 4 rfl) rfl
theorem q1274 : (Jvm.Cond.fieldLink "BoatsCalledInModel" (297 : Nat) "BoatsCalledInModel" "oldBoats" "I") ∈ lw_all := lw_g (lw_at lw_m6 5 rfl) rfl
theorem q1275 : (Jvm.Cond.fieldLink "BoatsCalledInModel" (55 : Nat) "BoatsCalledInModel" "old" "[I") ∈ lw_all := lw_g (lw_at lw_m6 6 rfl) rfl
theorem q1276 : (Jvm.Cond.fieldLink "BoatsCalledInModel" (58 : Nat) "BoatsCalledInModel" "sheetSort" "[I") ∈ lw_all := lw_g (lw_at lw_m6 7 rfl) rfl
theorem q1277 : (Jvm.Cond.fieldLink "BoatsCalledInModel" (61 : Nat) "BoatsCalledInModel" "sheetSize" "[I") ∈ lw_all := lw_g (lw_at lw_m6 8 rfl) rfl
theorem q1278 : (Jvm.Cond.fieldLink "BoatsCalledInModel" (64 : Nat) "BoatsCalledInModel" "items" "[I") ∈ lw_all := lw_g (lw_at lw_m6 9 rfl) rfl
theorem q1279 : (Jvm.Cond.fieldLink "BoatsCalledInModel" (67 : Nat) "BoatsCalledInModel" "spare" "[I") ∈ lw_all := lw_g (lw_at lw_m6 10 rfl) rfl
theorem q1280 : (Jvm.Cond.lays "BoatsCalledInModel" "BoatsCalledInModel" "boats" "I") ∈ lw_all := lw_g (lw_at lw_m6 11 rfl) rfl
theorem q1281 : (Jvm.Cond.soleField "BoatsCalledInModel" "boats") ∈ lw_all := lw_g (lw_at lw_m6 12 rfl) rfl
theorem q1282 : (Jvm.Cond.laysFinal "BoatsCalledInModel" "BoatsCalledInModel" "kind" "[I") ∈ lw_all := lw_g (lw_at lw_m6 13 rfl) rfl
theorem q1283 : (Jvm.Cond.soleField "BoatsCalledInModel" "kind") ∈ lw_all := lw_g (lw_at lw_m6 14 rfl) rfl
theorem q1284 : (Jvm.Cond.laysFinal "BoatsCalledInModel" "BoatsCalledInModel" "number" "[I") ∈ lw_all := lw_g (lw_at lw_m6 15 rfl) rfl
theorem q1285 : (Jvm.Cond.soleField "BoatsCalledInModel" "number") ∈ lw_all := lw_g (lw_at lw_m6 16 rfl) rfl
theorem q1286 : (Jvm.Cond.laysFinal "BoatsCalledInModel" "BoatsCalledInModel" "cell" "[I") ∈ lw_all := lw_g (lw_at lw_m6 17 rfl) rfl
theorem q1287 : (Jvm.Cond.soleField "BoatsCalledInModel" "cell") ∈ lw_all := lw_g (lw_at lw_m6 18 rfl) rfl
theorem q1288 : (Jvm.Cond.laysFinal "BoatsCalledInModel" "BoatsCalledInModel" "out" "[I") ∈ lw_all := lw_g (lw_at lw_m6 19 rfl) rfl
theorem q1289 : (Jvm.Cond.soleField "BoatsCalledInModel" "out") ∈ lw_all := lw_g (lw_at lw_m6 20 rfl) rfl
theorem q1290 : (Jvm.Cond.laysFinal "BoatsCalledInModel" "BoatsCalledInModel" "paid" "[I") ∈ lw_all := lw_g (lw_at lw_m6 21 rfl) rfl
theorem q1291 : (Jvm.Cond.soleField "BoatsCalledInModel" "paid") ∈ lw_all := lw_g (lw_at lw_m6 22 rfl) rfl
theorem q1292 : (Jvm.Cond.laysFinal "BoatsCalledInModel" "BoatsCalledInModel" "how" "[I") ∈ lw_all := lw_g (lw_at lw_m6 23 rfl) rfl
theorem q1293 : (Jvm.Cond.soleField "BoatsCalledInModel" "how") ∈ lw_all := lw_g (lw_at lw_m6 24 rfl) rfl
theorem q1294 : (Jvm.Cond.laysFinal "BoatsCalledInModel" "BoatsCalledInModel" "when" "[I") ∈ lw_all := lw_g (lw_at lw_m6 25 rfl) rfl
theorem q1295 : (Jvm.Cond.soleField "BoatsCalledInModel" "when") ∈ lw_all := lw_g (lw_at lw_m6 26 rfl) rfl
theorem q1296 : (Jvm.Cond.lays "BoatsCalledInModel" "BoatsCalledInModel" "island" "I") ∈ lw_all := lw_g (lw_at lw_m6 27 rfl) rfl
theorem q1297 : (Jvm.Cond.soleField "BoatsCalledInModel" "island") ∈ lw_all := lw_g (lw_at lw_m6 28 rfl) rfl
theorem q1298 : (Jvm.Cond.lays "BoatsCalledInModel" "BoatsCalledInModel" "wind" "I") ∈ lw_all := lw_g (lw_at lw_m6 29 rfl) rfl
theorem q1299 : (Jvm.Cond.soleField "BoatsCalledInModel" "wind") ∈ lw_all := lw_g (lw_at lw_m6 30 rfl) rfl
theorem q1300 : (Jvm.Cond.lays "BoatsCalledInModel" "BoatsCalledInModel" "minute" "I") ∈ lw_all := lw_g (lw_at lw_m6 31 rfl) rfl
theorem q1301 : (Jvm.Cond.soleField "BoatsCalledInModel" "minute") ∈ lw_all := lw_g (lw_at lw_m6 32 rfl) rfl
theorem q1302 : (Jvm.Cond.lays "BoatsCalledInModel" "BoatsCalledInModel" "tows" "I") ∈ lw_all := lw_g (lw_at lw_m6 33 rfl) rfl
theorem q1303 : (Jvm.Cond.soleField "BoatsCalledInModel" "tows") ∈ lw_all := lw_g (lw_at lw_m6 34 rfl) rfl
theorem q1304 : (Jvm.Cond.lays "BoatsCalledInModel" "BoatsCalledInModel" "speed" "I") ∈ lw_all := lw_g (lw_at lw_m6 35 rfl) rfl
theorem q1305 : (Jvm.Cond.soleField "BoatsCalledInModel" "speed") ∈ lw_all := lw_g (lw_at lw_m6 36 rfl) rfl
theorem q1306 : (Jvm.Cond.lays "BoatsCalledInModel" "BoatsCalledInModel" "waiting" "I") ∈ lw_all := lw_g (lw_at lw_m6 37 rfl) rfl
theorem q1307 : (Jvm.Cond.soleField "BoatsCalledInModel" "waiting") ∈ lw_all := lw_g (lw_at lw_m6 38 rfl) rfl
theorem q1308 : (Jvm.Cond.lays "BoatsCalledInModel" "BoatsCalledInModel" "takings" "I") ∈ lw_all := lw_g (lw_at lw_m6 39 rfl) rfl
theorem q1309 : (Jvm.Cond.soleField "BoatsCalledInModel" "takings") ∈ lw_all := lw_g (lw_at lw_m6 40 rfl) rfl
theorem q1310 : (Jvm.Cond.lays "BoatsCalledInModel" "BoatsCalledInModel" "taped" "I") ∈ lw_all := lw_g (lw_at lw_m6 41 rfl) rfl
theorem q1311 : (Jvm.Cond.soleField "BoatsCalledInModel" "taped") ∈ lw_all := lw_g (lw_at lw_m6 42 rfl) rfl
theorem q1312 : (Jvm.Cond.laysFinal "BoatsCalledInModel" "BoatsCalledInModel" "tape" "[I") ∈ lw_all := lw_g (lw_at lw_m6 43 rfl) rfl
theorem q1313 : (Jvm.Cond.soleField "BoatsCalledInModel" "tape") ∈ lw_all := lw_g (lw_at lw_m6 44 rfl) rfl
theorem q1314 : (Jvm.Cond.lays "BoatsCalledInModel" "BoatsCalledInModel" "texts" "I") ∈ lw_all := lw_g (lw_at lw_m6 45 rfl) rfl
theorem q1315 : (Jvm.Cond.soleField "BoatsCalledInModel" "texts") ∈ lw_all := lw_g (lw_at lw_m6 46 rfl) rfl
theorem q1316 : (Jvm.Cond.lays "BoatsCalledInModel" "BoatsCalledInModel" "rule" "I") ∈ lw_all := lw_g (lw_at lw_m6 47 rfl) rfl
theorem q1317 : (Jvm.Cond.soleField "BoatsCalledInModel" "rule") ∈ lw_all := lw_g (lw_at lw_m6 48 rfl) rfl
theorem q1318 : (Jvm.Cond.laysFinal "BoatsCalledInModel" "BoatsCalledInModel" "code" "[I") ∈ lw_all := lw_g (lw_at lw_m6 49 rfl) rfl
theorem q1319 : (Jvm.Cond.soleField "BoatsCalledInModel" "code") ∈ lw_all := lw_g (lw_at lw_m6 50 rfl) rfl
theorem q1320 : (Jvm.Cond.laysFinal "BoatsCalledInModel" "BoatsCalledInModel" "begins" "[I") ∈ lw_all := lw_g (lw_at lw_m6 51 rfl) rfl
theorem q1321 : (Jvm.Cond.soleField "BoatsCalledInModel" "begins") ∈ lw_all := lw_g (lw_at lw_m6 52 rfl) rfl
theorem q1322 : (Jvm.Cond.lays "BoatsCalledInModel" "BoatsCalledInModel" "made" "I") ∈ lw_all := lw_g (lw_at lw_m6 53 rfl) rfl
theorem q1323 : (Jvm.Cond.soleField "BoatsCalledInModel" "made") ∈ lw_all := lw_g (lw_at lw_m6 54 rfl) rfl
theorem q1324 : (Jvm.Cond.lays "BoatsCalledInModel" "BoatsCalledInModel" "at" "I") ∈ lw_all := lw_g (lw_at lw_m6 55 rfl) rfl
theorem q1325 : (Jvm.Cond.soleField "BoatsCalledInModel" "at") ∈ lw_all := lw_g (lw_at lw_m6 56 rfl) rfl
theorem q1326 : (Jvm.Cond.lays "BoatsCalledInModel" "BoatsCalledInModel" "from" "I") ∈ lw_all := lw_g (lw_at lw_m6 57 rfl) rfl
theorem q1327 : (Jvm.Cond.soleField "BoatsCalledInModel" "from") ∈ lw_all := lw_g (lw_at lw_m6 58 rfl) rfl
theorem q1328 : (Jvm.Cond.lays "BoatsCalledInModel" "BoatsCalledInModel" "sort" "I") ∈ lw_all := lw_g (lw_at lw_m6 59 rfl) rfl
theorem q1329 : (Jvm.Cond.soleField "BoatsCalledInModel" "sort") ∈ lw_all := lw_g (lw_at lw_m6 60 rfl) rfl
theorem q1330 : (Jvm.Cond.lays "BoatsCalledInModel" "BoatsCalledInModel" "value" "I") ∈ lw_all := lw_g (lw_at lw_m6 61 rfl) rfl
theorem q1331 : (Jvm.Cond.soleField "BoatsCalledInModel" "value") ∈ lw_all := lw_g (lw_at lw_m6 62 rfl) rfl
theorem q1332 : (Jvm.Cond.lays "BoatsCalledInModel" "BoatsCalledInModel" "open" "I") ∈ lw_all := lw_g (lw_at lw_m6 63 rfl) rfl
theorem q1333 : (Jvm.Cond.soleField "BoatsCalledInModel" "open") ∈ lw_all := lw_g (lw_at lw_m6 64 rfl) rfl
theorem q1334 : (Jvm.Cond.laysFinal "BoatsCalledInModel" "BoatsCalledInModel" "stack" "[I") ∈ lw_all := lw_g (lw_at lw_m6 65 rfl) rfl
theorem q1335 : (Jvm.Cond.soleField "BoatsCalledInModel" "stack") ∈ lw_all := lw_g (lw_at lw_m6 66 rfl) rfl
theorem q1336 : (Jvm.Cond.laysFinal "BoatsCalledInModel" "BoatsCalledInModel" "names" "[I") ∈ lw_all := lw_g (lw_at lw_m6 67 rfl) rfl
theorem q1337 : (Jvm.Cond.soleField "BoatsCalledInModel" "names") ∈ lw_all := lw_g (lw_at lw_m6 68 rfl) rfl
theorem q1338 : (Jvm.Cond.lays "BoatsCalledInModel" "BoatsCalledInModel" "fewest" "I") ∈ lw_all := lw_g (lw_at lw_m6 69 rfl) rfl
theorem q1339 : (Jvm.Cond.soleField "BoatsCalledInModel" "fewest") ∈ lw_all := lw_g (lw_at lw_m6 70 rfl) rfl
theorem q1340 : (Jvm.Cond.laysFinal "BoatsCalledInModel" "BoatsCalledInModel" "order" "[I") ∈ lw_all := lw_g (lw_at lw_m6 71 rfl) rfl
theorem q1341 : (Jvm.Cond.soleField "BoatsCalledInModel" "order") ∈ lw_all := lw_g (lw_at lw_m6 72 rfl) rfl
theorem q1342 : (Jvm.Cond.laysFinal "BoatsCalledInModel" "BoatsCalledInModel" "first" "[I") ∈ lw_all := lw_g (lw_at lw_m6 73 rfl) rfl
theorem q1343 : (Jvm.Cond.soleField "BoatsCalledInModel" "first") ∈ lw_all := lw_g (lw_at lw_m6 74 rfl) rfl
theorem q1344 : (Jvm.Cond.laysFinal "BoatsCalledInModel" "BoatsCalledInModel" "minutes" "[I") ∈ lw_all := lw_g (lw_at lw_m6 75 rfl) rfl
theorem q1345 : (Jvm.Cond.soleField "BoatsCalledInModel" "minutes") ∈ lw_all := lw_g (lw_at lw_m6 76 rfl) rfl
theorem q1346 : (Jvm.Cond.lays "BoatsCalledInModel" "BoatsCalledInModel" "imaged" "Z") ∈ lw_all := lw_g (lw_at lw_m6 77 rfl) rfl
theorem q1347 : (Jvm.Cond.soleField "BoatsCalledInModel" "imaged") ∈ lw_all := lw_g (lw_at lw_m6 78 rfl) rfl
theorem q1348 : (Jvm.Cond.lays "BoatsCalledInModel" "BoatsCalledInModel" "oldBoats" "I") ∈ lw_all := lw_g (lw_at lw_m6 79 rfl) rfl
theorem q1349 : (Jvm.Cond.soleField "BoatsCalledInModel" "oldBoats") ∈ lw_all := lw_g (lw_at lw_m6 80 rfl) rfl
theorem q1350 : (Jvm.Cond.laysFinal "BoatsCalledInModel" "BoatsCalledInModel" "old" "[I") ∈ lw_all := lw_g (lw_at lw_m6 81 rfl) rfl
theorem q1351 : (Jvm.Cond.soleField "BoatsCalledInModel" "old") ∈ lw_all := lw_g (lw_at lw_m6 82 rfl) rfl
theorem q1352 : (Jvm.Cond.laysFinal "BoatsCalledInModel" "BoatsCalledInModel" "sheetSort" "[I") ∈ lw_all := lw_g (lw_at lw_m6 83 rfl) rfl
theorem q1353 : (Jvm.Cond.soleField "BoatsCalledInModel" "sheetSort") ∈ lw_all := lw_g (lw_at lw_m6 84 rfl) rfl
theorem q1354 : (Jvm.Cond.laysFinal "BoatsCalledInModel" "BoatsCalledInModel" "sheetSize" "[I") ∈ lw_all := lw_g (lw_at lw_m6 85 rfl) rfl
theorem q1355 : (Jvm.Cond.soleField "BoatsCalledInModel" "sheetSize") ∈ lw_all := lw_g (lw_at lw_m6 86 rfl) rfl
theorem q1356 : (Jvm.Cond.laysFinal "BoatsCalledInModel" "BoatsCalledInModel" "items" "[I") ∈ lw_all := lw_g (lw_at lw_m6 87 rfl) rfl
theorem q1357 : (Jvm.Cond.soleField "BoatsCalledInModel" "items") ∈ lw_all := lw_g (lw_at lw_m6 88 rfl) rfl
theorem q1358 : (Jvm.Cond.laysFinal "BoatsCalledInModel" "BoatsCalledInModel" "spare" "[I") ∈ lw_all := lw_g (lw_at lw_m6 89 rfl) rfl
theorem q1359 : (Jvm.Cond.soleField "BoatsCalledInModel" "spare") ∈ lw_all := lw_g (lw_at lw_m6 90 rfl) rfl
theorem q1360 : (Jvm.Cond.superclass "BoatsCalledInModel" "java/lang/Object") ∈ lw_all := lw_g (lw_at lw_m6 91 rfl) rfl
theorem q1362 : (Jvm.Cond.instanceMethod ({ cls := "BoatsCalledInModel", name := "boat", desc := "(III)I" } : Jvm.MethodName)) ∈ lw_all := lw_g (lw_at lw_m6 93 rfl) rfl
theorem q1363 : (Jvm.Cond.selects "BoatsCalledInModel" ({ cls := "BoatsCalledInModel", name := "boat", desc := "(III)I" } : Jvm.MethodName) ({ cls := "BoatsCalledInModel", name := "boat", desc := "(III)I" } : Jvm.MethodName)) ∈ lw_all := lw_g (lw_at lw_m6 94 rfl) rfl
theorem q1364 : (Jvm.Cond.code ({ cls := "BoatsCalledInModel", name := "boat", desc := "(III)I" } : Jvm.MethodName) prog_16_method_5_code (4 : Nat) (Option.some Jvm.ClassFile.FieldType.int)) ∈ lw_all := lw_g (lw_at lw_m6 95 rfl) rfl
theorem q1365 : (Jvm.Cond.constant "BoatsCalledInModel" (111 : Nat) (240999 : Int32)) ∈ lw_all := lw_g (lw_at lw_m6 96 rfl) rfl
theorem q1367 : (Jvm.Cond.instanceMethod ({ cls := "BoatsCalledInModel", name := "set", desc := "(III)I" } : Jvm.MethodName)) ∈ lw_all := lw_g (lw_at lw_m6 98 rfl) rfl
theorem q1368 : (Jvm.Cond.selects "BoatsCalledInModel" ({ cls := "BoatsCalledInModel", name := "set", desc := "(III)I" } : Jvm.MethodName) ({ cls := "BoatsCalledInModel", name := "set", desc := "(III)I" } : Jvm.MethodName)) ∈ lw_all := lw_g (lw_at lw_m6 99 rfl) rfl
theorem q1369 : (Jvm.Cond.code ({ cls := "BoatsCalledInModel", name := "set", desc := "(III)I" } : Jvm.MethodName) prog_16_method_6_code (7 : Nat) (Option.some Jvm.ClassFile.FieldType.int)) ∈ lw_all := lw_g (lw_at lw_m6 100 rfl) rfl
theorem q1370 : (Jvm.Cond.methodLink "BoatsCalledInModel" (112 : Nat) ({ cls := "BoatsCalledInModel", name := "isBoat", desc := "(I)Z" } : Jvm.MethodName)) ∈ lw_all := lw_g (lw_at lw_m6 101 rfl) rfl
theorem q1371 : (Jvm.Cond.privateMethod ({ cls := "BoatsCalledInModel", name := "isBoat", desc := "(I)Z" } : Jvm.MethodName)) ∈ lw_tbl := lw_at lw_m6 102 rfl
theorem q1372 : (Jvm.Cond.instanceMethod ({ cls := "BoatsCalledInModel", name := "isBoat", desc := "(I)Z" } : Jvm.MethodName)) ∈ lw_all := lw_g (lw_at lw_m6 103 rfl) rfl
theorem q1373 : (Jvm.Cond.code ({ cls := "BoatsCalledInModel", name := "isBoat", desc := "(I)Z" } : Jvm.MethodName) prog_16_method_3_code (2 : Nat) (Option.some Jvm.ClassFile.FieldType.boolean)) ∈ lw_all := lw_g (lw_at lw_m6 104 rfl) rfl
theorem q1375 : (Jvm.Cond.instanceMethod ({ cls := "BoatsCalledInModel", name := "told", desc := "(II)I" } : Jvm.MethodName)) ∈ lw_all := lw_g (lw_at lw_m6 106 rfl) rfl
theorem q1376 : (Jvm.Cond.selects "BoatsCalledInModel" ({ cls := "BoatsCalledInModel", name := "told", desc := "(II)I" } : Jvm.MethodName) ({ cls := "BoatsCalledInModel", name := "told", desc := "(II)I" } : Jvm.MethodName)) ∈ lw_all := lw_g (lw_at lw_m6 107 rfl) rfl
theorem q1377 : (Jvm.Cond.code ({ cls := "BoatsCalledInModel", name := "told", desc := "(II)I" } : Jvm.MethodName) prog_16_method_14_code (3 : Nat) (Option.some Jvm.ClassFile.FieldType.int)) ∈ lw_all := lw_g (lw_at lw_m6 108 rfl) rfl
theorem q1378 : (Jvm.Cond.methodLink "BoatsCalledInModel" (148 : Nat) ({ cls := "BoatsCalledInModel", name := "rows", desc := "(I)I" } : Jvm.MethodName)) ∈ lw_all := lw_g (lw_at lw_m6 109 rfl) rfl
theorem q1379 : (Jvm.Cond.privateMethod ({ cls := "BoatsCalledInModel", name := "rows", desc := "(I)I" } : Jvm.MethodName)) ∈ lw_tbl := lw_at lw_m6 110 rfl
theorem q1380 : (Jvm.Cond.instanceMethod ({ cls := "BoatsCalledInModel", name := "rows", desc := "(I)I" } : Jvm.MethodName)) ∈ lw_all := lw_g (lw_at lw_m6 111 rfl) rfl
theorem q1381 : (Jvm.Cond.code ({ cls := "BoatsCalledInModel", name := "rows", desc := "(I)I" } : Jvm.MethodName) prog_16_method_7_code (3 : Nat) (Option.some Jvm.ClassFile.FieldType.int)) ∈ lw_all := lw_g (lw_at lw_m6 112 rfl) rfl
theorem q1382 : (Jvm.Cond.methodLink "BoatsCalledInModel" (139 : Nat) ({ cls := "BoatsCalledInModel", name := "hearing", desc := "(I)I" } : Jvm.MethodName)) ∈ lw_all := lw_g (lw_at lw_m6 113 rfl) rfl
theorem q1383 : (Jvm.Cond.privateMethod ({ cls := "BoatsCalledInModel", name := "hearing", desc := "(I)I" } : Jvm.MethodName)) ∈ lw_tbl := lw_at lw_m6 114 rfl
theorem q1384 : (Jvm.Cond.instanceMethod ({ cls := "BoatsCalledInModel", name := "hearing", desc := "(I)I" } : Jvm.MethodName)) ∈ lw_all := lw_g (lw_at lw_m6 115 rfl) rfl
theorem q1385 : (Jvm.Cond.code ({ cls := "BoatsCalledInModel", name := "hearing", desc := "(I)I" } : Jvm.MethodName) prog_16_method_8_code (3 : Nat) (Option.some Jvm.ClassFile.FieldType.int)) ∈ lw_all := lw_g (lw_at lw_m6 116 rfl) rfl
theorem q1386 : (Jvm.Cond.methodLink "BoatsCalledInModel" (122 : Nat) ({ cls := "java/lang/Math", name := "max", desc := "(II)I" } : Jvm.MethodName)) ∈ lw_all := lw_g (lw_at lw_m6 117 rfl) rfl
theorem q1387 : (Jvm.Cond.methodLink "BoatsCalledInModel" (151 : Nat) ({ cls := "BoatsCalledInModel", name := "would", desc := "(I)Z" } : Jvm.MethodName)) ∈ lw_all := lw_g (lw_at lw_m6 118 rfl) rfl
theorem q1388 : (Jvm.Cond.privateMethod ({ cls := "BoatsCalledInModel", name := "would", desc := "(I)Z" } : Jvm.MethodName)) ∈ lw_tbl := lw_at lw_m6 119 rfl
theorem q1389 : (Jvm.Cond.instanceMethod ({ cls := "BoatsCalledInModel", name := "would", desc := "(I)Z" } : Jvm.MethodName)) ∈ lw_all := lw_g (lw_at lw_m6 120 rfl) rfl
theorem q1390 : (Jvm.Cond.code ({ cls := "BoatsCalledInModel", name := "would", desc := "(I)Z" } : Jvm.MethodName) prog_16_method_12_code (2 : Nat) (Option.some Jvm.ClassFile.FieldType.boolean)) ∈ lw_all := lw_g (lw_at lw_m6 121 rfl) rfl
theorem q1391 : (Jvm.Cond.methodLink "BoatsCalledInModel" (145 : Nat) ({ cls := "BoatsCalledInModel", name := "would", desc := "(III)Z" } : Jvm.MethodName)) ∈ lw_all := lw_g (lw_at lw_m6 122 rfl) rfl
theorem q1392 : (Jvm.Cond.privateMethod ({ cls := "BoatsCalledInModel", name := "would", desc := "(III)Z" } : Jvm.MethodName)) ∈ lw_tbl := lw_at lw_m6 123 rfl
theorem q1393 : (Jvm.Cond.instanceMethod ({ cls := "BoatsCalledInModel", name := "would", desc := "(III)Z" } : Jvm.MethodName)) ∈ lw_all := lw_g (lw_at lw_m6 124 rfl) rfl
theorem q1394 : (Jvm.Cond.code ({ cls := "BoatsCalledInModel", name := "would", desc := "(III)Z" } : Jvm.MethodName) prog_16_method_11_code (4 : Nat) (Option.some Jvm.ClassFile.FieldType.boolean)) ∈ lw_all := lw_g (lw_at lw_m6 125 rfl) rfl
theorem q1395 : (Jvm.Cond.methodLink "BoatsCalledInModel" (126 : Nat) ({ cls := "BoatsCalledInModel", name := "far", desc := "(II)I" } : Jvm.MethodName)) ∈ lw_all := lw_g (lw_at lw_m6 126 rfl) rfl
theorem q1396 : (Jvm.Cond.static ({ cls := "BoatsCalledInModel", name := "far", desc := "(II)I" } : Jvm.MethodName)) ∈ lw_all := lw_g (lw_at lw_m6 127 rfl) rfl
theorem q1397 : (Jvm.Cond.code ({ cls := "BoatsCalledInModel", name := "far", desc := "(II)I" } : Jvm.MethodName) prog_16_method_4_code (2 : Nat) (Option.some Jvm.ClassFile.FieldType.int)) ∈ lw_all := lw_g (lw_at lw_m6 128 rfl) rfl
theorem q1398 : (Jvm.Cond.methodLink "BoatsCalledInModel" (106 : Nat) ({ cls := "java/lang/Math", name := "abs", desc := "(I)I" } : Jvm.MethodName)) ∈ lw_all := lw_g (lw_at lw_m6 129 rfl) rfl
theorem q1399 : (Jvm.Cond.methodLink "BoatsCalledInModel" (132 : Nat) ({ cls := "BoatsCalledInModel", name := "rules", desc := "(IIII)I" } : Jvm.MethodName)) ∈ lw_all := lw_g (lw_at lw_m6 130 rfl) rfl
theorem q1400 : (Jvm.Cond.privateMethod ({ cls := "BoatsCalledInModel", name := "rules", desc := "(IIII)I" } : Jvm.MethodName)) ∈ lw_tbl := lw_at lw_m6 131 rfl
theorem q1401 : (Jvm.Cond.instanceMethod ({ cls := "BoatsCalledInModel", name := "rules", desc := "(IIII)I" } : Jvm.MethodName)) ∈ lw_all := lw_g (lw_at lw_m6 132 rfl) rfl
theorem q1402 : (Jvm.Cond.code ({ cls := "BoatsCalledInModel", name := "rules", desc := "(IIII)I" } : Jvm.MethodName) prog_16_method_9_code (12 : Nat) (Option.some Jvm.ClassFile.FieldType.int)) ∈ lw_all := lw_g (lw_at lw_m6 133 rfl) rfl
theorem q1403 : (Jvm.Cond.methodLink "BoatsCalledInModel" (153 : Nat) ({ cls := "BoatsCalledInModel", name := "owes", desc := "(II)I" } : Jvm.MethodName)) ∈ lw_all := lw_g (lw_at lw_m6 134 rfl) rfl
theorem q1404 : (Jvm.Cond.privateMethod ({ cls := "BoatsCalledInModel", name := "owes", desc := "(II)I" } : Jvm.MethodName)) ∈ lw_tbl := lw_at lw_m6 135 rfl
theorem q1405 : (Jvm.Cond.instanceMethod ({ cls := "BoatsCalledInModel", name := "owes", desc := "(II)I" } : Jvm.MethodName)) ∈ lw_all := lw_g (lw_at lw_m6 136 rfl) rfl
theorem q1406 : (Jvm.Cond.code ({ cls := "BoatsCalledInModel", name := "owes", desc := "(II)I" } : Jvm.MethodName) prog_16_method_10_code (6 : Nat) (Option.some Jvm.ClassFile.FieldType.int)) ∈ lw_all := lw_g (lw_at lw_m6 137 rfl) rfl
theorem q1407 : (Jvm.Cond.methodLink "BoatsCalledInModel" (136 : Nat) ({ cls := "java/lang/Math", name := "min", desc := "(II)I" } : Jvm.MethodName)) ∈ lw_all := lw_g (lw_at lw_m6 138 rfl) rfl
theorem q1411 : (Jvm.Cond.instanceMethod ({ cls := "BoatsCalledInModel", name := "force", desc := "(I)I" } : Jvm.MethodName)) ∈ lw_all := lw_g (lw_at lw_m6 142 rfl) rfl
theorem q1412 : (Jvm.Cond.selects "BoatsCalledInModel" ({ cls := "BoatsCalledInModel", name := "force", desc := "(I)I" } : Jvm.MethodName) ({ cls := "BoatsCalledInModel", name := "force", desc := "(I)I" } : Jvm.MethodName)) ∈ lw_all := lw_g (lw_at lw_m6 143 rfl) rfl
theorem q1413 : (Jvm.Cond.code ({ cls := "BoatsCalledInModel", name := "force", desc := "(I)I" } : Jvm.MethodName) prog_16_method_31_code (3 : Nat) (Option.some Jvm.ClassFile.FieldType.int)) ∈ lw_all := lw_g (lw_at lw_m6 144 rfl) rfl
theorem q1415 : (Jvm.Cond.instanceMethod ({ cls := "BoatsCalledInModel", name := "call", desc := "(I)I" } : Jvm.MethodName)) ∈ lw_all := lw_g (lw_at lw_m6 146 rfl) rfl
theorem q1416 : (Jvm.Cond.selects "BoatsCalledInModel" ({ cls := "BoatsCalledInModel", name := "call", desc := "(I)I" } : Jvm.MethodName) ({ cls := "BoatsCalledInModel", name := "call", desc := "(I)I" } : Jvm.MethodName)) ∈ lw_all := lw_g (lw_at lw_m6 147 rfl) rfl
theorem q1417 : (Jvm.Cond.code ({ cls := "BoatsCalledInModel", name := "call", desc := "(I)I" } : Jvm.MethodName) prog_16_method_32_code (2 : Nat) (Option.some Jvm.ClassFile.FieldType.int)) ∈ lw_all := lw_g (lw_at lw_m6 148 rfl) rfl
theorem q1418 : (Jvm.Cond.methodLink "BoatsCalledInModel" (246 : Nat) ({ cls := "BoatsCalledInModel", name := "needs", desc := "(I)I" } : Jvm.MethodName)) ∈ lw_all := lw_g (lw_at lw_m6 149 rfl) rfl
theorem q1419 : (Jvm.Cond.privateMethod ({ cls := "BoatsCalledInModel", name := "needs", desc := "(I)I" } : Jvm.MethodName)) ∈ lw_tbl := lw_at lw_m6 150 rfl
theorem q1420 : (Jvm.Cond.instanceMethod ({ cls := "BoatsCalledInModel", name := "needs", desc := "(I)I" } : Jvm.MethodName)) ∈ lw_all := lw_g (lw_at lw_m6 151 rfl) rfl
theorem q1421 : (Jvm.Cond.code ({ cls := "BoatsCalledInModel", name := "needs", desc := "(I)I" } : Jvm.MethodName) prog_16_method_13_code (2 : Nat) (Option.some Jvm.ClassFile.FieldType.int)) ∈ lw_all := lw_g (lw_at lw_m6 152 rfl) rfl
theorem q1423 : (Jvm.Cond.instanceMethod ({ cls := "BoatsCalledInModel", name := "time", desc := "(I)I" } : Jvm.MethodName)) ∈ lw_all := lw_g (lw_at lw_m6 154 rfl) rfl
theorem q1424 : (Jvm.Cond.selects "BoatsCalledInModel" ({ cls := "BoatsCalledInModel", name := "time", desc := "(I)I" } : Jvm.MethodName) ({ cls := "BoatsCalledInModel", name := "time", desc := "(I)I" } : Jvm.MethodName)) ∈ lw_all := lw_g (lw_at lw_m6 155 rfl) rfl
theorem q1425 : (Jvm.Cond.code ({ cls := "BoatsCalledInModel", name := "time", desc := "(I)I" } : Jvm.MethodName) prog_16_method_35_code (2 : Nat) (Option.some Jvm.ClassFile.FieldType.int)) ∈ lw_all := lw_g (lw_at lw_m6 156 rfl) rfl
theorem q1426 : (Jvm.Cond.methodLink "BoatsCalledInModel" (256 : Nat) ({ cls := "BoatsCalledInModel", name := "passes", desc := "(I)I" } : Jvm.MethodName)) ∈ lw_all := lw_g (lw_at lw_m6 157 rfl) rfl
theorem q1427 : (Jvm.Cond.privateMethod ({ cls := "BoatsCalledInModel", name := "passes", desc := "(I)I" } : Jvm.MethodName)) ∈ lw_tbl := lw_at lw_m6 158 rfl
theorem q1428 : (Jvm.Cond.instanceMethod ({ cls := "BoatsCalledInModel", name := "passes", desc := "(I)I" } : Jvm.MethodName)) ∈ lw_all := lw_g (lw_at lw_m6 159 rfl) rfl
theorem q1429 : (Jvm.Cond.code ({ cls := "BoatsCalledInModel", name := "passes", desc := "(I)I" } : Jvm.MethodName) prog_16_method_34_code (4 : Nat) (Option.some Jvm.ClassFile.FieldType.int)) ∈ lw_all := lw_g (lw_at lw_m6 160 rfl) rfl
theorem q1430 : (Jvm.Cond.methodLink "BoatsCalledInModel" (252 : Nat) ({ cls := "BoatsCalledInModel", name := "comesIn", desc := "(II)V" } : Jvm.MethodName)) ∈ lw_all := lw_g (lw_at lw_m6 161 rfl) rfl
theorem q1431 : (Jvm.Cond.privateMethod ({ cls := "BoatsCalledInModel", name := "comesIn", desc := "(II)V" } : Jvm.MethodName)) ∈ lw_tbl := lw_at lw_m6 162 rfl
theorem q1432 : (Jvm.Cond.instanceMethod ({ cls := "BoatsCalledInModel", name := "comesIn", desc := "(II)V" } : Jvm.MethodName)) ∈ lw_all := lw_g (lw_at lw_m6 163 rfl) rfl
theorem q1433 : (Jvm.Cond.code ({ cls := "BoatsCalledInModel", name := "comesIn", desc := "(II)V" } : Jvm.MethodName) prog_16_method_33_code (3 : Nat) (Option.none : Option Jvm.ClassFile.FieldType)) ∈ lw_all := lw_g (lw_at lw_m6 164 rfl) rfl
theorem q1435 : (Jvm.Cond.instanceMethod ({ cls := "BoatsCalledInModel", name := "nobody", desc := "()I" } : Jvm.MethodName)) ∈ lw_all := lw_g (lw_at lw_m6 166 rfl) rfl
theorem q1436 : (Jvm.Cond.selects "BoatsCalledInModel" ({ cls := "BoatsCalledInModel", name := "nobody", desc := "()I" } : Jvm.MethodName) ({ cls := "BoatsCalledInModel", name := "nobody", desc := "()I" } : Jvm.MethodName)) ∈ lw_all := lw_g (lw_at lw_m6 167 rfl) rfl
theorem q1437 : (Jvm.Cond.code ({ cls := "BoatsCalledInModel", name := "nobody", desc := "()I" } : Jvm.MethodName) prog_16_method_36_code (3 : Nat) (Option.some Jvm.ClassFile.FieldType.int)) ∈ lw_all := lw_g (lw_at lw_m6 168 rfl) rfl
theorem q1439 : (Jvm.Cond.instanceMethod ({ cls := "BoatsCalledInModel", name := "callAt", desc := "(I)I" } : Jvm.MethodName)) ∈ lw_all := lw_g (lw_at lw_m6 170 rfl) rfl
theorem q1440 : (Jvm.Cond.selects "BoatsCalledInModel" ({ cls := "BoatsCalledInModel", name := "callAt", desc := "(I)I" } : Jvm.MethodName) ({ cls := "BoatsCalledInModel", name := "callAt", desc := "(I)I" } : Jvm.MethodName)) ∈ lw_all := lw_g (lw_at lw_m6 171 rfl) rfl
theorem q1441 : (Jvm.Cond.code ({ cls := "BoatsCalledInModel", name := "callAt", desc := "(I)I" } : Jvm.MethodName) prog_16_method_37_code (3 : Nat) (Option.some Jvm.ClassFile.FieldType.int)) ∈ lw_all := lw_g (lw_at lw_m6 172 rfl) rfl
theorem q1443 : (Jvm.Cond.instanceMethod ({ cls := "BoatsCalledInModel", name := "allIn", desc := "()I" } : Jvm.MethodName)) ∈ lw_all := lw_g (lw_at lw_m6 174 rfl) rfl
theorem q1444 : (Jvm.Cond.selects "BoatsCalledInModel" ({ cls := "BoatsCalledInModel", name := "allIn", desc := "()I" } : Jvm.MethodName) ({ cls := "BoatsCalledInModel", name := "allIn", desc := "()I" } : Jvm.MethodName)) ∈ lw_all := lw_g (lw_at lw_m6 175 rfl) rfl
theorem q1445 : (Jvm.Cond.code ({ cls := "BoatsCalledInModel", name := "allIn", desc := "()I" } : Jvm.MethodName) prog_16_method_39_code (3 : Nat) (Option.some Jvm.ClassFile.FieldType.int)) ∈ lw_all := lw_g (lw_at lw_m6 176 rfl) rfl
theorem q1446 : (Jvm.Cond.methodLink "BoatsCalledInModel" (259 : Nat) ({ cls := "BoatsCalledInModel", name := "wouldBeIn", desc := "(I)I" } : Jvm.MethodName)) ∈ lw_all := lw_g (lw_at lw_m6 177 rfl) rfl
theorem q1447 : (Jvm.Cond.privateMethod ({ cls := "BoatsCalledInModel", name := "wouldBeIn", desc := "(I)I" } : Jvm.MethodName)) ∈ lw_tbl := lw_at lw_m6 178 rfl
theorem q1448 : (Jvm.Cond.instanceMethod ({ cls := "BoatsCalledInModel", name := "wouldBeIn", desc := "(I)I" } : Jvm.MethodName)) ∈ lw_all := lw_g (lw_at lw_m6 179 rfl) rfl
theorem q1449 : (Jvm.Cond.code ({ cls := "BoatsCalledInModel", name := "wouldBeIn", desc := "(I)I" } : Jvm.MethodName) prog_16_method_38_code (2 : Nat) (Option.some Jvm.ClassFile.FieldType.int)) ∈ lw_all := lw_g (lw_at lw_m6 180 rfl) rfl
theorem q1451 : (Jvm.Cond.instanceMethod ({ cls := "BoatsCalledInModel", name := "fetch", desc := "(II)I" } : Jvm.MethodName)) ∈ lw_all := lw_g (lw_at lw_m6 182 rfl) rfl
theorem q1452 : (Jvm.Cond.selects "BoatsCalledInModel" ({ cls := "BoatsCalledInModel", name := "fetch", desc := "(II)I" } : Jvm.MethodName) ({ cls := "BoatsCalledInModel", name := "fetch", desc := "(II)I" } : Jvm.MethodName)) ∈ lw_all := lw_g (lw_at lw_m6 183 rfl) rfl
theorem q1453 : (Jvm.Cond.code ({ cls := "BoatsCalledInModel", name := "fetch", desc := "(II)I" } : Jvm.MethodName) prog_16_method_43_code (4 : Nat) (Option.some Jvm.ClassFile.FieldType.int)) ∈ lw_all := lw_g (lw_at lw_m6 184 rfl) rfl
theorem q1454 : (Jvm.Cond.methodLink "BoatsCalledInModel" (269 : Nat) ({ cls := "BoatsCalledInModel", name := "onTheLake", desc := "(I)Z" } : Jvm.MethodName)) ∈ lw_all := lw_g (lw_at lw_m6 185 rfl) rfl
theorem q1455 : (Jvm.Cond.privateMethod ({ cls := "BoatsCalledInModel", name := "onTheLake", desc := "(I)Z" } : Jvm.MethodName)) ∈ lw_tbl := lw_at lw_m6 186 rfl
theorem q1456 : (Jvm.Cond.instanceMethod ({ cls := "BoatsCalledInModel", name := "onTheLake", desc := "(I)Z" } : Jvm.MethodName)) ∈ lw_all := lw_g (lw_at lw_m6 187 rfl) rfl
theorem q1457 : (Jvm.Cond.code ({ cls := "BoatsCalledInModel", name := "onTheLake", desc := "(I)Z" } : Jvm.MethodName) prog_16_method_40_code (3 : Nat) (Option.some Jvm.ClassFile.FieldType.boolean)) ∈ lw_all := lw_g (lw_at lw_m6 188 rfl) rfl
theorem q1458 : (Jvm.Cond.methodLink "BoatsCalledInModel" (272 : Nat) ({ cls := "BoatsCalledInModel", name := "fetches", desc := "(I)I" } : Jvm.MethodName)) ∈ lw_all := lw_g (lw_at lw_m6 189 rfl) rfl
theorem q1459 : (Jvm.Cond.privateMethod ({ cls := "BoatsCalledInModel", name := "fetches", desc := "(I)I" } : Jvm.MethodName)) ∈ lw_tbl := lw_at lw_m6 190 rfl
theorem q1460 : (Jvm.Cond.instanceMethod ({ cls := "BoatsCalledInModel", name := "fetches", desc := "(I)I" } : Jvm.MethodName)) ∈ lw_all := lw_g (lw_at lw_m6 191 rfl) rfl
theorem q1461 : (Jvm.Cond.code ({ cls := "BoatsCalledInModel", name := "fetches", desc := "(I)I" } : Jvm.MethodName) prog_16_method_42_code (2 : Nat) (Option.some Jvm.ClassFile.FieldType.int)) ∈ lw_all := lw_g (lw_at lw_m6 192 rfl) rfl
theorem q1462 : (Jvm.Cond.methodLink "BoatsCalledInModel" (265 : Nat) ({ cls := "BoatsCalledInModel", name := "goes", desc := "(IIIII)V" } : Jvm.MethodName)) ∈ lw_all := lw_g (lw_at lw_m6 193 rfl) rfl
theorem q1463 : (Jvm.Cond.privateMethod ({ cls := "BoatsCalledInModel", name := "goes", desc := "(IIIII)V" } : Jvm.MethodName)) ∈ lw_tbl := lw_at lw_m6 194 rfl
theorem q1464 : (Jvm.Cond.instanceMethod ({ cls := "BoatsCalledInModel", name := "goes", desc := "(IIIII)V" } : Jvm.MethodName)) ∈ lw_all := lw_g (lw_at lw_m6 195 rfl) rfl
theorem q1465 : (Jvm.Cond.code ({ cls := "BoatsCalledInModel", name := "goes", desc := "(IIIII)V" } : Jvm.MethodName) prog_16_method_41_code (8 : Nat) (Option.none : Option Jvm.ClassFile.FieldType)) ∈ lw_all := lw_g (lw_at lw_m6 196 rfl) rfl
theorem q1466 : (Jvm.Cond.methodLink "BoatsCalledInModel" (275 : Nat) ({ cls := "java/lang/Integer", name := "bitCount", desc := "(I)I" } : Jvm.MethodName)) ∈ lw_all := lw_g (lw_at lw_m6 197 rfl) rfl
theorem q1468 : (Jvm.Cond.instanceMethod ({ cls := "BoatsCalledInModel", name := "launch", desc := "(I)I" } : Jvm.MethodName)) ∈ lw_all := lw_g (lw_at lw_m6 199 rfl) rfl
theorem q1469 : (Jvm.Cond.selects "BoatsCalledInModel" ({ cls := "BoatsCalledInModel", name := "launch", desc := "(I)I" } : Jvm.MethodName) ({ cls := "BoatsCalledInModel", name := "launch", desc := "(I)I" } : Jvm.MethodName)) ∈ lw_all := lw_g (lw_at lw_m6 200 rfl) rfl
theorem q1470 : (Jvm.Cond.code ({ cls := "BoatsCalledInModel", name := "launch", desc := "(I)I" } : Jvm.MethodName) prog_16_method_44_code (4 : Nat) (Option.some Jvm.ClassFile.FieldType.int)) ∈ lw_all := lw_g (lw_at lw_m6 201 rfl) rfl
theorem q1472 : (Jvm.Cond.instanceMethod ({ cls := "BoatsCalledInModel", name := "one", desc := "(I)I" } : Jvm.MethodName)) ∈ lw_all := lw_g (lw_at lw_m6 203 rfl) rfl
theorem q1473 : (Jvm.Cond.selects "BoatsCalledInModel" ({ cls := "BoatsCalledInModel", name := "one", desc := "(I)I" } : Jvm.MethodName) ({ cls := "BoatsCalledInModel", name := "one", desc := "(I)I" } : Jvm.MethodName)) ∈ lw_all := lw_g (lw_at lw_m6 204 rfl) rfl
theorem q1474 : (Jvm.Cond.code ({ cls := "BoatsCalledInModel", name := "one", desc := "(I)I" } : Jvm.MethodName) prog_16_method_45_code (6 : Nat) (Option.some Jvm.ClassFile.FieldType.int)) ∈ lw_all := lw_g (lw_at lw_m6 205 rfl) rfl
theorem q1476 : (Jvm.Cond.instanceMethod ({ cls := "BoatsCalledInModel", name := "thunder", desc := "(II)I" } : Jvm.MethodName)) ∈ lw_all := lw_g (lw_at lw_m6 207 rfl) rfl
theorem q1477 : (Jvm.Cond.selects "BoatsCalledInModel" ({ cls := "BoatsCalledInModel", name := "thunder", desc := "(II)I" } : Jvm.MethodName) ({ cls := "BoatsCalledInModel", name := "thunder", desc := "(II)I" } : Jvm.MethodName)) ∈ lw_all := lw_g (lw_at lw_m6 208 rfl) rfl
theorem q1478 : (Jvm.Cond.code ({ cls := "BoatsCalledInModel", name := "thunder", desc := "(II)I" } : Jvm.MethodName) prog_16_method_46_code (6 : Nat) (Option.some Jvm.ClassFile.FieldType.int)) ∈ lw_all := lw_g (lw_at lw_m6 209 rfl) rfl
theorem q1479 : (Jvm.Cond.methodLink "BoatsCalledInModel" (280 : Nat) ({ cls := "BoatsCalledInModel", name := "nobody", desc := "()I" } : Jvm.MethodName)) ∈ lw_all := lw_g (lw_at lw_m6 210 rfl) rfl
theorem q1481 : (Jvm.Cond.instanceMethod ({ cls := "BoatsCalledInModel", name := "stand", desc := "()I" } : Jvm.MethodName)) ∈ lw_all := lw_g (lw_at lw_m6 212 rfl) rfl
theorem q1482 : (Jvm.Cond.selects "BoatsCalledInModel" ({ cls := "BoatsCalledInModel", name := "stand", desc := "()I" } : Jvm.MethodName) ({ cls := "BoatsCalledInModel", name := "stand", desc := "()I" } : Jvm.MethodName)) ∈ lw_all := lw_g (lw_at lw_m6 213 rfl) rfl
theorem q1483 : (Jvm.Cond.code ({ cls := "BoatsCalledInModel", name := "stand", desc := "()I" } : Jvm.MethodName) prog_16_method_47_code (5 : Nat) (Option.some Jvm.ClassFile.FieldType.int)) ∈ lw_all := lw_g (lw_at lw_m6 214 rfl) rfl
theorem q1485 : (Jvm.Cond.instanceMethod ({ cls := "BoatsCalledInModel", name := "heard", desc := "(I)I" } : Jvm.MethodName)) ∈ lw_all := lw_g (lw_at lw_m6 216 rfl) rfl
theorem q1486 : (Jvm.Cond.selects "BoatsCalledInModel" ({ cls := "BoatsCalledInModel", name := "heard", desc := "(I)I" } : Jvm.MethodName) ({ cls := "BoatsCalledInModel", name := "heard", desc := "(I)I" } : Jvm.MethodName)) ∈ lw_all := lw_g (lw_at lw_m6 217 rfl) rfl
theorem q1487 : (Jvm.Cond.code ({ cls := "BoatsCalledInModel", name := "heard", desc := "(I)I" } : Jvm.MethodName) prog_16_method_48_code (6 : Nat) (Option.some Jvm.ClassFile.FieldType.int)) ∈ lw_all := lw_g (lw_at lw_m6 218 rfl) rfl
theorem q1489 : (Jvm.Cond.instanceMethod ({ cls := "BoatsCalledInModel", name := "where", desc := "(II)I" } : Jvm.MethodName)) ∈ lw_all := lw_g (lw_at lw_m6 220 rfl) rfl
theorem q1490 : (Jvm.Cond.selects "BoatsCalledInModel" ({ cls := "BoatsCalledInModel", name := "where", desc := "(II)I" } : Jvm.MethodName) ({ cls := "BoatsCalledInModel", name := "where", desc := "(II)I" } : Jvm.MethodName)) ∈ lw_all := lw_g (lw_at lw_m6 221 rfl) rfl
theorem q1491 : (Jvm.Cond.code ({ cls := "BoatsCalledInModel", name := "where", desc := "(II)I" } : Jvm.MethodName) prog_16_method_49_code (5 : Nat) (Option.some Jvm.ClassFile.FieldType.int)) ∈ lw_all := lw_g (lw_at lw_m6 222 rfl) rfl
theorem q1493 : (Jvm.Cond.instanceMethod ({ cls := "BoatsCalledInModel", name := "drawn", desc := "(I)I" } : Jvm.MethodName)) ∈ lw_all := lw_g (lw_at lw_m6 224 rfl) rfl
theorem q1494 : (Jvm.Cond.selects "BoatsCalledInModel" ({ cls := "BoatsCalledInModel", name := "drawn", desc := "(I)I" } : Jvm.MethodName) ({ cls := "BoatsCalledInModel", name := "drawn", desc := "(I)I" } : Jvm.MethodName)) ∈ lw_all := lw_g (lw_at lw_m6 225 rfl) rfl
theorem q1495 : (Jvm.Cond.code ({ cls := "BoatsCalledInModel", name := "drawn", desc := "(I)I" } : Jvm.MethodName) prog_16_method_50_code (5 : Nat) (Option.some Jvm.ClassFile.FieldType.int)) ∈ lw_all := lw_g (lw_at lw_m6 226 rfl) rfl
theorem q1496 : (Jvm.Cond.constant "BoatsCalledInModel" (283 : Nat) (1103515245 : Int32)) ∈ lw_all := lw_g (lw_at lw_m6 227 rfl) rfl
theorem q1498 : (Jvm.Cond.instanceMethod ({ cls := "BoatsCalledInModel", name := "chance", desc := "(III)J" } : Jvm.MethodName)) ∈ lw_all := lw_g (lw_at lw_m6 229 rfl) rfl
theorem q1499 : (Jvm.Cond.selects "BoatsCalledInModel" ({ cls := "BoatsCalledInModel", name := "chance", desc := "(III)J" } : Jvm.MethodName) ({ cls := "BoatsCalledInModel", name := "chance", desc := "(III)J" } : Jvm.MethodName)) ∈ lw_all := lw_g (lw_at lw_m6 230 rfl) rfl
theorem q1500 : (Jvm.Cond.code ({ cls := "BoatsCalledInModel", name := "chance", desc := "(III)J" } : Jvm.MethodName) prog_16_method_52_code (7 : Nat) (Option.some Jvm.ClassFile.FieldType.long)) ∈ lw_all := lw_g (lw_at lw_m6 231 rfl) rfl
theorem q1501 : (Jvm.Cond.constantLong "BoatsCalledInModel" (284 : Nat) (-4611686018427387904 : Int64)) ∈ lw_all := lw_g (lw_at lw_m6 232 rfl) rfl
theorem q1502 : (Jvm.Cond.methodLink "BoatsCalledInModel" (286 : Nat) ({ cls := "BoatsCalledInModel", name := "drawn", desc := "(I)I" } : Jvm.MethodName)) ∈ lw_all := lw_g (lw_at lw_m6 233 rfl) rfl
theorem q1503 : (Jvm.Cond.methodLink "BoatsCalledInModel" (289 : Nat) ({ cls := "BoatsCalledInModel", name := "lowest", desc := "(JJI)J" } : Jvm.MethodName)) ∈ lw_all := lw_g (lw_at lw_m6 234 rfl) rfl
theorem q1504 : (Jvm.Cond.static ({ cls := "BoatsCalledInModel", name := "lowest", desc := "(JJI)J" } : Jvm.MethodName)) ∈ lw_all := lw_g (lw_at lw_m6 235 rfl) rfl
theorem q1505 : (Jvm.Cond.code ({ cls := "BoatsCalledInModel", name := "lowest", desc := "(JJI)J" } : Jvm.MethodName) prog_16_method_51_code (11 : Nat) (Option.some Jvm.ClassFile.FieldType.long)) ∈ lw_all := lw_g (lw_at lw_m6 236 rfl) rfl
theorem q1507 : (Jvm.Cond.instanceMethod ({ cls := "BoatsCalledInModel", name := "image", desc := "()I" } : Jvm.MethodName)) ∈ lw_all := lw_g (lw_at lw_m6 238 rfl) rfl
theorem q1508 : (Jvm.Cond.selects "BoatsCalledInModel" ({ cls := "BoatsCalledInModel", name := "image", desc := "()I" } : Jvm.MethodName) ({ cls := "BoatsCalledInModel", name := "image", desc := "()I" } : Jvm.MethodName)) ∈ lw_all := lw_g (lw_at lw_m6 239 rfl) rfl
theorem q1509 : (Jvm.Cond.code ({ cls := "BoatsCalledInModel", name := "image", desc := "()I" } : Jvm.MethodName) prog_16_method_53_code (2 : Nat) (Option.some Jvm.ClassFile.FieldType.int)) ∈ lw_all := lw_g (lw_at lw_m7 0 rfl) rfl
theorem q1511 : (Jvm.Cond.instanceMethod ({ cls := "BoatsCalledInModel", name := "back", desc := "()I" } : Jvm.MethodName)) ∈ lw_all := lw_g (lw_at lw_m7 2 rfl) rfl
theorem q1512 : (Jvm.Cond.selects "BoatsCalledInModel" ({ cls := "BoatsCalledInModel", name := "back", desc := "()I" } : Jvm.MethodName) ({ cls := "BoatsCalledInModel", name := "back", desc := "()I" } : Jvm.MethodName)) ∈ lw_all := lw_g (lw_at lw_m7 3 rfl) rfl
theorem q1513 : (Jvm.Cond.code ({ cls := "BoatsCalledInModel", name := "back", desc := "()I" } : Jvm.MethodName) prog_16_method_54_code (2 : Nat) (Option.some Jvm.ClassFile.FieldType.int)) ∈ lw_all := lw_g (lw_at lw_m7 4 rfl) rfl
theorem q1515 : (Jvm.Cond.instanceMethod ({ cls := "BoatsCalledInModel", name := "count", desc := "(I)I" } : Jvm.MethodName)) ∈ lw_all := lw_g (lw_at lw_m7 6 rfl) rfl
theorem q1516 : (Jvm.Cond.selects "BoatsCalledInModel" ({ cls := "BoatsCalledInModel", name := "count", desc := "(I)I" } : Jvm.MethodName) ({ cls := "BoatsCalledInModel", name := "count", desc := "(I)I" } : Jvm.MethodName)) ∈ lw_all := lw_g (lw_at lw_m7 7 rfl) rfl
theorem q1517 : (Jvm.Cond.code ({ cls := "BoatsCalledInModel", name := "count", desc := "(I)I" } : Jvm.MethodName) prog_16_method_56_code (2 : Nat) (Option.some Jvm.ClassFile.FieldType.int)) ∈ lw_all := lw_g (lw_at lw_m7 8 rfl) rfl
theorem q1518 : (Jvm.Cond.methodLink "BoatsCalledInModel" (300 : Nat) ({ cls := "BoatsCalledInModel", name := "thoseWho", desc := "(I)I" } : Jvm.MethodName)) ∈ lw_all := lw_g (lw_at lw_m7 9 rfl) rfl
theorem q1519 : (Jvm.Cond.privateMethod ({ cls := "BoatsCalledInModel", name := "thoseWho", desc := "(I)I" } : Jvm.MethodName)) ∈ lw_tbl := lw_at lw_m7 10 rfl
theorem q1520 : (Jvm.Cond.instanceMethod ({ cls := "BoatsCalledInModel", name := "thoseWho", desc := "(I)I" } : Jvm.MethodName)) ∈ lw_all := lw_g (lw_at lw_m7 11 rfl) rfl
theorem q1521 : (Jvm.Cond.code ({ cls := "BoatsCalledInModel", name := "thoseWho", desc := "(I)I" } : Jvm.MethodName) prog_16_method_55_code (4 : Nat) (Option.some Jvm.ClassFile.FieldType.int)) ∈ lw_all := lw_g (lw_at lw_m7 12 rfl) rfl
theorem q1523 : (Jvm.Cond.instanceMethod ({ cls := "BoatsCalledInModel", name := "sheet", desc := "(III)I" } : Jvm.MethodName)) ∈ lw_all := lw_g (lw_at lw_m7 14 rfl) rfl
theorem q1524 : (Jvm.Cond.selects "BoatsCalledInModel" ({ cls := "BoatsCalledInModel", name := "sheet", desc := "(III)I" } : Jvm.MethodName) ({ cls := "BoatsCalledInModel", name := "sheet", desc := "(III)I" } : Jvm.MethodName)) ∈ lw_all := lw_g (lw_at lw_m7 15 rfl) rfl
theorem q1525 : (Jvm.Cond.code ({ cls := "BoatsCalledInModel", name := "sheet", desc := "(III)I" } : Jvm.MethodName) prog_16_method_57_code (5 : Nat) (Option.some Jvm.ClassFile.FieldType.int)) ∈ lw_all := lw_g (lw_at lw_m7 16 rfl) rfl
theorem q1527 : (Jvm.Cond.instanceMethod ({ cls := "BoatsCalledInModel", name := "cell", desc := "(III)I" } : Jvm.MethodName)) ∈ lw_all := lw_g (lw_at lw_m7 18 rfl) rfl
theorem q1528 : (Jvm.Cond.selects "BoatsCalledInModel" ({ cls := "BoatsCalledInModel", name := "cell", desc := "(III)I" } : Jvm.MethodName) ({ cls := "BoatsCalledInModel", name := "cell", desc := "(III)I" } : Jvm.MethodName)) ∈ lw_all := lw_g (lw_at lw_m7 19 rfl) rfl
theorem q1529 : (Jvm.Cond.code ({ cls := "BoatsCalledInModel", name := "cell", desc := "(III)I" } : Jvm.MethodName) prog_16_method_58_code (4 : Nat) (Option.some Jvm.ClassFile.FieldType.int)) ∈ lw_all := lw_g (lw_at lw_m7 20 rfl) rfl
theorem q1531 : (Jvm.Cond.instanceMethod ({ cls := "BoatsCalledInModel", name := "copy", desc := "(IIIII)I" } : Jvm.MethodName)) ∈ lw_all := lw_g (lw_at lw_m7 22 rfl) rfl
theorem q1532 : (Jvm.Cond.selects "BoatsCalledInModel" ({ cls := "BoatsCalledInModel", name := "copy", desc := "(IIIII)I" } : Jvm.MethodName) ({ cls := "BoatsCalledInModel", name := "copy", desc := "(IIIII)I" } : Jvm.MethodName)) ∈ lw_all := lw_g (lw_at lw_m7 23 rfl) rfl
theorem q1533 : (Jvm.Cond.code ({ cls := "BoatsCalledInModel", name := "copy", desc := "(IIIII)I" } : Jvm.MethodName) prog_16_method_59_code (7 : Nat) (Option.some Jvm.ClassFile.FieldType.int)) ∈ lw_all := lw_g (lw_at lw_m7 24 rfl) rfl
theorem q1535 : (Jvm.Cond.instanceMethod ({ cls := "BoatsCalledInModel", name := "boats", desc := "(IIII)I" } : Jvm.MethodName)) ∈ lw_all := lw_g (lw_at lw_m7 26 rfl) rfl
theorem q1536 : (Jvm.Cond.selects "BoatsCalledInModel" ({ cls := "BoatsCalledInModel", name := "boats", desc := "(IIII)I" } : Jvm.MethodName) ({ cls := "BoatsCalledInModel", name := "boats", desc := "(IIII)I" } : Jvm.MethodName)) ∈ lw_all := lw_g (lw_at lw_m7 27 rfl) rfl
theorem q1537 : (Jvm.Cond.code ({ cls := "BoatsCalledInModel", name := "boats", desc := "(IIII)I" } : Jvm.MethodName) prog_16_method_60_code (10 : Nat) (Option.some Jvm.ClassFile.FieldType.int)) ∈ lw_all := lw_g (lw_at lw_m7 28 rfl) rfl
theorem q1538 : (Jvm.Cond.constantLong "BoatsCalledInModel" (303 : Nat) (3 : Int64)) ∈ lw_all := lw_g (lw_at lw_m7 29 rfl) rfl
theorem q1539 : (Jvm.Cond.constantLong "BoatsCalledInModel" (305 : Nat) (2 : Int64)) ∈ lw_all := lw_g (lw_at lw_m7 30 rfl) rfl
theorem q1540 : (Jvm.Cond.methodLink "BoatsCalledInModel" (307 : Nat) ({ cls := "BoatsCalledInModel", name := "boat", desc := "(III)I" } : Jvm.MethodName)) ∈ lw_all := lw_g (lw_at lw_m7 31 rfl) rfl
theorem q1542 : (Jvm.Cond.instanceMethod ({ cls := "BoatsCalledInModel", name := "taken", desc := "(II)I" } : Jvm.MethodName)) ∈ lw_all := lw_g (lw_at lw_m7 33 rfl) rfl
theorem q1543 : (Jvm.Cond.selects "BoatsCalledInModel" ({ cls := "BoatsCalledInModel", name := "taken", desc := "(II)I" } : Jvm.MethodName) ({ cls := "BoatsCalledInModel", name := "taken", desc := "(II)I" } : Jvm.MethodName)) ∈ lw_all := lw_g (lw_at lw_m7 34 rfl) rfl
theorem q1544 : (Jvm.Cond.code ({ cls := "BoatsCalledInModel", name := "taken", desc := "(II)I" } : Jvm.MethodName) prog_16_method_61_code (4 : Nat) (Option.some Jvm.ClassFile.FieldType.int)) ∈ lw_all := lw_g (lw_at lw_m7 35 rfl) rfl
theorem in_X8 : ∀ w ∈ wsX80, w ∈ lw_all := lw_in wsX80 [1280, 1282, 1284, 1286, 1288, 1290, 1292, 1294, 1296, 1298, 1300, 1302, 1304, 1306, 1308, 1310, 1312, 1314, 1316, 1318, 1320, 1322, 1324, 1326, 1328, 1330, 1332, 1334, 1336, 1338, 1340, 1342, 1344, 1346, 1348, 1350, 1352, 1354, 1356, 1358] (by decide +kernel) (by decide +kernel)
