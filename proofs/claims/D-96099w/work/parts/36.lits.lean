/-! the string constants of the two classes -/
set_option maxRecDepth 100000
/-- a part of a conjunction, by its path (low bit first, a 1 at the end) -/
def cAt : Nat → Nat → Cond → Cond
  | 0, _, c => c
  | n + 1, p, .and a b => if p ≤ 1 then .and a b else if p % 2 = 0 then cAt n (p / 2) a else cAt n (p / 2) b
  | _ + 1, _, c => c
theorem cAt_ok {args : Array Value} {s : State} : ∀ (n p : Nat) (c : Cond), c.before args s = true → (cAt n p c).before args s = true := by
  intro n
  induction n with
  | zero => intro p c h; exact h
  | succ n ih =>
    intro p c h
    cases c with
    | and a b =>
      show (if p ≤ 1 then Cond.and a b else if p % 2 = 0 then cAt n (p / 2) a else cAt n (p / 2) b).before args s = true
      split
      · exact h
      · rw [Cond.before_and, Bool.and_eq_true] at h
        split
        · exact ih _ _ h.1
        · exact ih _ _ h.2
    | _ => exact h
theorem cAts {Γ : Gam} (h : GOK Γ) {ps : List Nat} {ws : List Cond} (e : ps.map (fun p => cAt 40 p (Jvm.Cond.and given_1 narrow_1)) = ws) : ∀ w ∈ ws, w.before #[Value.ref (gb Γ)] (gs Γ) = true := by
  subst e
  intro w hw
  obtain ⟨p, -, rfl⟩ := List.mem_map.mp hw
  exact cAt_ok _ _ _ h.2.1
def wSigns : List Int32 := [40, 41, 59, 43, 45, 42, 60, 61]
def wPrice : List Int32 := [112, 114, 105, 99, 101]
def wHears : List Int32 := [104, 101, 97, 114, 115]
def wComes : List Int32 := [99, 111, 109, 101, 115]
def wOr : List Int32 := [111, 114]
def wAnd : List Int32 := [97, 110, 100]
def wNot : List Int32 := [110, 111, 116]
def wFar : List Int32 := [102, 97, 114]
def wWind : List Int32 := [119, 105, 110, 100]
def wLate : List Int32 := [108, 97, 116, 101]
def wHid : List Int32 := [104, 105, 100]
def wBoat : List Int32 := [98, 111, 97, 116]
def wMinute : List Int32 := [109, 105, 110, 117, 116, 101]
def wFirst : List Int32 := [112, 114, 105, 99, 101, 32, 52, 32, 59, 32, 104, 101, 97, 114, 115, 32, 110, 111, 116, 32, 104, 105, 100, 32, 59, 32, 99, 111, 109, 101, 115, 32, 48, 32, 45, 32, 53, 32, 60, 32, 108, 97, 116, 101, 32, 59]
theorem ls_X0_165 {Γ : Gam} (hΓ : GOK Γ) : LStr Γ RX0 165 wSigns := LStr.of hΓ (cAts hΓ (ps := [1379, 2915, 3939, 1251, 2787, 3811, 1507, 3043, 4067, 1043, 1555, 1299]) (by decide +kernel)) (by decide)
theorem ls_X0_275 {Γ : Gam} (hΓ : GOK Γ) : LStr Γ RX0 275 wPrice := LStr.of hΓ (cAts hΓ (ps := [2835, 3859, 1171, 2707, 3731, 1427, 2963, 3987, 1107]) (by decide +kernel)) (by decide)
theorem ls_X0_277 {Γ : Gam} (hΓ : GOK Γ) : LStr Γ RX0 277 wHears := LStr.of hΓ (cAts hΓ (ps := [1619, 1363, 2899, 3923, 1235, 2771, 3795, 1491, 3027]) (by decide +kernel)) (by decide)
theorem ls_X0_279 {Γ : Gam} (hΓ : GOK Γ) : LStr Γ RX0 279 wComes := LStr.of hΓ (cAts hΓ (ps := [4051, 1075, 1587, 1331, 2867, 3891, 1203, 2739, 3763]) (by decide +kernel)) (by decide)
theorem ls_X0_281 {Γ : Gam} (hΓ : GOK Γ) : LStr Γ RX0 281 wOr := LStr.of hΓ (cAts hΓ (ps := [1459, 2995, 4019, 1139, 1651, 1395]) (by decide +kernel)) (by decide)
theorem ls_X0_283 {Γ : Gam} (hΓ : GOK Γ) : LStr Γ RX0 283 wAnd := LStr.of hΓ (cAts hΓ (ps := [2931, 3955, 1267, 2803, 3827, 1523, 3059]) (by decide +kernel)) (by decide)
theorem ls_X0_285 {Γ : Gam} (hΓ : GOK Γ) : LStr Γ RX0 285 wNot := LStr.of hΓ (cAts hΓ (ps := [4083, 1035, 1547, 1291, 2827, 3851, 1163]) (by decide +kernel)) (by decide)
theorem ls_X0_286 {Γ : Gam} (hΓ : GOK Γ) : LStr Γ RX0 286 wFar := LStr.of hΓ (cAts hΓ (ps := [1675, 1419, 2955, 3979, 1099, 1611, 1355]) (by decide +kernel)) (by decide)
theorem ls_X0_288 {Γ : Gam} (hΓ : GOK Γ) : LStr Γ RX0 288 wWind := LStr.of hΓ (cAts hΓ (ps := [2891, 3915, 1227, 2763, 3787, 1483, 3019, 4043]) (by decide +kernel)) (by decide)
theorem ls_X0_290 {Γ : Gam} (hΓ : GOK Γ) : LStr Γ RX0 290 wLate := LStr.of hΓ (cAts hΓ (ps := [1067, 1579, 1323, 2859, 3883, 1195, 2731, 3755]) (by decide +kernel)) (by decide)
theorem ls_X0_292 {Γ : Gam} (hΓ : GOK Γ) : LStr Γ RX0 292 wHid := LStr.of hΓ (cAts hΓ (ps := [1451, 2987, 4011, 1131, 1643, 1387, 2923]) (by decide +kernel)) (by decide)
theorem ls_X0_294 {Γ : Gam} (hΓ : GOK Γ) : LStr Γ RX0 294 wBoat := LStr.of hΓ (cAts hΓ (ps := [3947, 1259, 2795, 3819, 1515, 3051, 4075, 1051]) (by decide +kernel)) (by decide)
theorem ls_X0_296 {Γ : Gam} (hΓ : GOK Γ) : LStr Γ RX0 296 wMinute := LStr.of hΓ (cAts hΓ (ps := [1563, 1307, 2843, 3867, 1179, 2715, 3739, 1435, 2971, 3995]) (by decide +kernel)) (by decide)
theorem ls_X0_324 {Γ : Gam} (hΓ : GOK Γ) : LStr Γ RX0 324 wFirst := LStr.of hΓ (cAts hΓ (ps := [1115, 1627, 1371, 2907, 3931, 1243, 2779, 3803, 1499, 3035, 4059, 1083, 1595, 1339, 2875, 3899, 1211, 2747, 3771, 1467, 3003, 4027, 1147, 1659, 1403, 2939, 3963, 1275, 2811, 3835, 1531, 3067, 4091, 1031, 1543, 1287, 2823, 3847, 1159, 1671, 1415, 2951, 3975, 1095, 1607, 1351, 2887, 3911, 1223, 2759]) (by decide +kernel)) (by decide)
theorem ls_X8_80 {Γ : Gam} (hΓ : GOK Γ) : LStr Γ RX8 80 wFirst := LStr.of hΓ (cAts hΓ (ps := [3783, 1479, 3015, 4039, 1063, 1575, 1319, 2855, 3879, 1191, 2727, 3751, 1447, 2983, 4007, 1127, 1639, 1383, 2919, 3943, 1255, 2791, 3815, 1511, 3047, 4071, 1047, 1559, 1303, 2839, 3863, 1175, 2711, 3735, 1431, 2967, 3991, 1111, 1623, 1367, 2903, 3927, 1239, 2775, 3799, 1495, 3031, 4055, 1079, 1591]) (by decide +kernel)) (by decide)
theorem ls_X8_236 {Γ : Gam} (hΓ : GOK Γ) : LStr Γ RX8 236 wPrice := LStr.of hΓ (cAts hΓ (ps := [2871, 3895, 1207, 2743, 3767, 1463, 2999, 4023, 1143]) (by decide +kernel)) (by decide)
theorem ls_X8_214 {Γ : Gam} (hΓ : GOK Γ) : LStr Γ RX8 214 wNot := LStr.of hΓ (cAts hΓ (ps := [1399, 2935, 3959, 1271, 2807, 3831, 1527]) (by decide +kernel)) (by decide)
theorem ls_X8_177 {Γ : Gam} (hΓ : GOK Γ) : LStr Γ RX8 177 wFar := LStr.of hΓ (cAts hΓ (ps := [4087, 1039, 1551, 1295, 2831, 3855, 1167]) (by decide +kernel)) (by decide)
theorem ls_X8_182 {Γ : Gam} (hΓ : GOK Γ) : LStr Γ RX8 182 wWind := LStr.of hΓ (cAts hΓ (ps := [3727, 1423, 2959, 3983, 1103, 1615, 1359, 2895]) (by decide +kernel)) (by decide)
theorem ls_X8_183 {Γ : Gam} (hΓ : GOK Γ) : LStr Γ RX8 183 wLate := LStr.of hΓ (cAts hΓ (ps := [1231, 2767, 3791, 1487, 3023, 4047, 1071, 1583]) (by decide +kernel)) (by decide)
theorem ls_X8_185 {Γ : Gam} (hΓ : GOK Γ) : LStr Γ RX8 185 wHid := LStr.of hΓ (cAts hΓ (ps := [2863, 3887, 1199, 2735, 3759, 1455, 2991]) (by decide +kernel)) (by decide)
theorem ls_X8_187 {Γ : Gam} (hΓ : GOK Γ) : LStr Γ RX8 187 wBoat := LStr.of hΓ (cAts hΓ (ps := [1135, 1647, 1391, 2927, 3951, 1263, 2799, 3823]) (by decide +kernel)) (by decide)
theorem ls_X8_189 {Γ : Gam} (hΓ : GOK Γ) : LStr Γ RX8 189 wMinute := LStr.of hΓ (cAts hΓ (ps := [3055, 4079, 1055, 1567, 1311, 2847, 3871, 1183, 2719, 3743]) (by decide +kernel)) (by decide)
theorem ls_X8_212 {Γ : Gam} (hΓ : GOK Γ) : LStr Γ RX8 212 wAnd := LStr.of hΓ (cAts hΓ (ps := [2975, 3999, 1119, 1631, 1375, 2911, 3935]) (by decide +kernel)) (by decide)
theorem ls_X8_200 {Γ : Gam} (hΓ : GOK Γ) : LStr Γ RX8 200 wOr := LStr.of hΓ (cAts hΓ (ps := [2783, 3807, 1503, 3039, 4063, 1087]) (by decide +kernel)) (by decide)
theorem ls_X8_242 {Γ : Gam} (hΓ : GOK Γ) : LStr Γ RX8 242 wHears := LStr.of hΓ (cAts hΓ (ps := [1343, 2879, 3903, 1215, 2751, 3775, 1471, 3007, 4031]) (by decide +kernel)) (by decide)
theorem ls_X8_244 {Γ : Gam} (hΓ : GOK Γ) : LStr Γ RX8 244 wComes := LStr.of hΓ (cAts hΓ (ps := [1663, 1407, 2943, 3967, 1279, 2815, 3839, 1535, 3071]) (by decide +kernel)) (by decide)
theorem lt_compact {Γ : Gam} (hΓ : GOK Γ) : LT Γ "java/lang/String" "COMPACT_STRINGS" "Z" (.int 1) := by
  obtain ⟨y, h1, h2⟩ := Cond.eq_one (cAts hΓ (ps := [1281]) (ws := [.eq (.static "java/lang/String" "COMPACT_STRINGS" "Z") (.int 1)]) (by decide +kernel) _ List.mem_cons_self)
  cases h2
  exact LT.of hΓ q425 (lw_at lw_m1 7 rfl) h1
theorem lt_form {Γ : Gam} (hΓ : GOK Γ) : ∃ w, (w = .null ∨ ∃ x, w = .ref x) ∧ LT Γ "jdk/internal/util/Preconditions" "SIOOBE_FORMATTER" "Ljava/util/function/BiFunction;" w := by
  have h := cAts hΓ (ps := [2817]) (ws := [.isRef (.static "jdk/internal/util/Preconditions" "SIOOBE_FORMATTER" "Ljava/util/function/BiFunction;")]) (by decide +kernel) _ List.mem_cons_self
  simp only [Cond.before, Cond.holds, Cond.value] at h
  cases hv : (Term.static "jdk/internal/util/Preconditions" "SIOOBE_FORMATTER" "Ljava/util/function/BiFunction;").eval #[Value.ref (gb Γ)] (gs Γ) none [] (gs Γ) with
  | none => rw [hv] at h; simp at h
  | some w =>
    refine ⟨w, ?_, LT.of hΓ q441 (lw_at lw_m1 9 rfl) hv⟩
    rw [hv] at h
    cases w <;> simp at h ⊢
